theorem bmod_small9 {x : Int} (h1 : -2147483648 ≤ x) (h2 : x ≤ 2147483647) : x.bmod (2 ^ 32) = x := by
  rw [Int.bmod_def]; omega
theorem toInt32_small9 {x : Int64} (h1 : -2147483648 ≤ x.toInt) (h2 : x.toInt ≤ 2147483647) : x.toInt32.toInt = x.toInt := by
  rw [Int64.toInt_toInt32]; exact bmod_small9 h1 h2
def m_cA (Z : Zt) (i0 : Nat) : Int32 := if xn Z 519 i0 < xn Z 504 (xn Z 518 i0) then nI (xn Z 519 i0) else -1
def m_cB (Z : Zt) (i0 : Nat) : Int32 := if xn Z 519 i0 = 1 then (if 1 < xn Z 504 (xn Z 518 i0) then 1 + m_rem (m_taken Z i0 0) (xn Z 504 (xn Z 518 i0) - 1) else -1) else -1
def m_c3 (Z : Zt) (i0 : Nat) : Int32 := if xi Z 503 (xn Z 518 i0) = 2 then (if xn Z 519 i0 = 0 then m_cA Z i0 else m_cB Z i0) else m_cA Z i0
def m_c2 (Z : Zt) (i0 : Nat) : Int32 := if xi Z 503 (xn Z 518 i0) = 3 then (if 1 < xn Z 519 i0 then (if m_taken Z i0 (xn Z 519 i0 - 1) = 0 then -2 else m_c3 Z i0) else m_c3 Z i0) else m_c3 Z i0
def m_c1 (Z : Zt) (i0 : Nat) : Int32 := if xi Z 503 (xn Z 518 i0) = 1 then (if 0 < xn Z 519 i0 then (if m_taken Z i0 (xn Z 519 i0 - 1) = 0 then m_c2 Z i0 else -1) else m_c2 Z i0) else m_c2 Z i0
def m_comes (Z : Zt) (i0 : Nat) : Int32 := if xi Z 515 (xn Z 518 i0) = 0 then (if xi Z 503 (xn Z 518 i0) = 5 then (if xn Z 504 (xn Z 518 i0) = 0 then -2 else m_c1 Z i0) else m_c1 Z i0) else -2
def m_ocS (Z : Zt) (i0 : Nat) (f : Int32) (v : Int64) (i : Nat) : Int64 := if f = 0 then v + m_taken Z i0 i else if f = 4 then v + m_taken Z i0 i else if f = 3 then (if m_taken Z i0 i = -1 then -v else v / m_taken Z i0 i) else if f = 5 then (if m_taken Z i0 i ≤ v then v else m_taken Z i0 i) else v
def m_ocL (Z : Zt) (i0 : Nat) (f : Int32) : Nat → Int64 → Nat → Int64
  | _, v, 0 => v
  | i, v, n + 1 => m_ocL Z i0 f (i + 1) (m_ocS Z i0 f v i) n
def m_oc0 (Z : Zt) (i0 : Nat) : Int64 := if xn Z 519 i0 = 0 then 0 else if xi Z 503 (xn Z 518 i0) = 1 then m_taken Z i0 (xn Z 519 i0 - 1) else if xi Z 503 (xn Z 518 i0) = 2 then m_taken Z i0 (xn Z 519 i0 - 1) else m_taken Z i0 0
def m_oc1 (Z : Zt) (i0 : Nat) : Int64 := m_ocL Z i0 (xi Z 503 (xn Z 518 i0)) 1 (m_oc0 Z i0) (xn Z 519 i0 - 1)
def m_outcome (Z : Zt) (i0 : Nat) : Int64 := if xi Z 503 (xn Z 518 i0) = 4 then m_oc1 Z i0 &&& 1 else m_oc1 Z i0
def m_copy (k i0 : Nat) : Zt → Nat → Nat → Zt
  | Z, _, 0 => Z
  | Z, i, n + 1 => m_copy k i0 (sn Z 511 (8 * k + i) (xn Z 520 (8 * i0 + i))) (i + 1) n
def m_sameV (Z : Zt) (k : Nat) (what : Int32) (v : Int64) : Int32 := if xi Z 516 k = 0 then 0 else if xi Z 506 k = what then (if what = 1 then (if xl Z 514 k = v then 1 else 0) else 1) else 0
def m_endA (Z : Zt) (k i0 : Nat) (what : Int32) (v : Int64) : Zt := sn (si (si (sl (si (si Z 508 k (if m_sameV Z k what v = 0 then xi Z 21 0 else xi Z 508 k)) 506 k what) 514 k v) 516 k 1) 507 k (xi Z 21 0)) 510 k (xn Z 519 i0)
def m_endB (Z : Zt) (u k : Nat) : Zt := sn (si Z 512 k (xi Z 512 k + 1)) 517 u (xn Z 517 u - 1)
def m_end (Z : Zt) (u : Nat) (what : Int32) (v : Int64) : Zt := m_endB (m_copy (xn Z 518 (40 * u + xn Z 517 u - 1)) (40 * u + xn Z 517 u - 1) (m_endA Z (xn Z 518 (40 * u + xn Z 517 u - 1)) (40 * u + xn Z 517 u - 1) what v) 0 (xn Z 519 (40 * u + xn Z 517 u - 1))) u (xn Z 518 (40 * u + xn Z 517 u - 1))
theorem m_copy_xi (k i0 : Nat) : ∀ (n : Nat) (Z : Zt) (i t j : Nat), xi (m_copy k i0 Z i n) t j = xi Z t j
  | 0, _, _, _, _ => rfl
  | n + 1, Z, i, t, j => (m_copy_xi k i0 n _ (i + 1) t j).trans rfl
theorem m_copy_xl (k i0 : Nat) : ∀ (n : Nat) (Z : Zt) (i t j : Nat), xl (m_copy k i0 Z i n) t j = xl Z t j
  | 0, _, _, _, _ => rfl
  | n + 1, Z, i, t, j => (m_copy_xl k i0 n _ (i + 1) t j).trans rfl
theorem m_copy_xc (k i0 : Nat) : ∀ (n : Nat) (Z : Zt) (i c t j : Nat), xc (m_copy k i0 Z i n) c t j = xc Z c t j
  | 0, _, _, _, _, _ => rfl
  | n + 1, Z, i, c, t, j => (m_copy_xc k i0 n _ (i + 1) c t j).trans rfl
theorem m_copy_xn (k i0 : Nat) : ∀ (n : Nat) (Z : Zt) (i t j : Nat), t ≠ 511 → xn (m_copy k i0 Z i n) t j = xn Z t j
  | 0, _, _, _, _, _ => rfl
  | n + 1, Z, i, t, j, h => (m_copy_xn k i0 n _ (i + 1) t j h).trans (by rw [xn_sn, if_neg (fun q => h q.1)])
theorem m_copy_ML {k i0 : Nat} {n : Nat} {Z : Zt} {i : Nat} (h : ML Z) : ML (m_copy k i0 Z i n) := ⟨by rw [m_copy_xn _ _ _ _ _ _ _ (by decide)]; exact h.1, by rw [m_copy_xn _ _ _ _ _ _ _ (by decide)]; exact h.2⟩
theorem m_rem_nat (v : Int64) {n : Nat} (h : 0 < n) (h2 : n ≤ 8) : ∃ j : Nat, j < n ∧ m_rem v n = nI j := by
  have hl : (nI n).toInt64 = lN n := nI_l (by omega)
  have e : (lN n).toInt = (n : Int) := lN_toInt (by omega)
  have hr : (v - v / lN n * lN n).toInt = v.toInt.tmod n := by
    rw [Jvm.Kit.i64_rem, e]
  have hb := tmod_bounds (a := v.toInt) (M := (n : Int)) (by omega)
  have h32 : ((v - v / lN n * lN n).toInt32).toInt = v.toInt.tmod n := by
    rw [toInt32_small9 (by rw [hr]; omega) (by rw [hr]; omega), hr]
  unfold m_rem
  rw [hl]
  by_cases h0 : 0 ≤ (v - v / lN n * lN n).toInt32
  · rw [if_pos h0]
    refine ⟨(v.toInt.tmod n).toNat, ?_, ?_⟩
    · have : (0 : Int) ≤ v.toInt.tmod n := by rw [← h32]; simpa using Int32.le_iff_toInt_le.mp h0
      omega
    · have : (0 : Int) ≤ v.toInt.tmod n := by rw [← h32]; simpa using Int32.le_iff_toInt_le.mp h0
      apply Int32.toInt_inj.mp
      rw [h32, nI_toInt (by omega)]
      omega
  · rw [if_neg h0]
    have hneg : v.toInt.tmod n < 0 := by
      rw [← h32]
      have := fun q => h0 (Int32.le_iff_toInt_le.mpr q)
      simpa using this
    refine ⟨(v.toInt.tmod n + n).toNat, by omega, ?_⟩
    apply Int32.toInt_inj.mp
    rw [nI_toInt (by omega), Int32.toInt_add, h32, nI_toInt (by omega)]
    rw [show ((v.toInt.tmod n + n).toNat : Int) = v.toInt.tmod n + n by omega]
    apply bmod_small9 <;> omega

theorem nI_lt0 {j : Nat} (h : j < 2 ^ 31) : ¬ nI j = -1 ∧ ¬ nI j = -2 := by
  have e := nI_toInt h
  have e1 : ((-1 : Int32)).toInt = -1 := by decide
  have e2 : ((-2 : Int32)).toInt = -2 := by decide
  refine ⟨fun q => ?_, fun q => ?_⟩ <;> rw [q] at e <;> omega
theorem m_cA_nat {Z : Zt} {i0 : Nat} (hI : MI Z) : m_cA Z i0 = -1 ∨ (m_cA Z i0 = nI (xn Z 519 i0) ∧ xn Z 519 i0 < xn Z 504 (xn Z 518 i0)) := by
  unfold m_cA
  by_cases h : xn Z 519 i0 < xn Z 504 (xn Z 518 i0)
  · exact Or.inr ⟨if_pos h, h⟩
  · exact Or.inl (if_neg h)
theorem m_cB_nat {Z : Zt} {i0 : Nat} (hI : MI Z) : m_cB Z i0 = -1 ∨ ∃ j, m_cB Z i0 = nI j ∧ j < xn Z 504 (xn Z 518 i0) ∧ xn Z 519 i0 = 1 ∧ 1 < xn Z 504 (xn Z 518 i0) ∧ j = 1 + (m_rem (m_taken Z i0 0) (xn Z 504 (xn Z 518 i0) - 1)).toNatClampNeg := by
  unfold m_cB
  by_cases h : xn Z 519 i0 = 1
  · by_cases h2 : 1 < xn Z 504 (xn Z 518 i0)
    · have h8 := hI.2.1 (xn Z 518 i0)
      obtain ⟨j, hj, e⟩ := m_rem_nat (m_taken Z i0 0) (n := xn Z 504 (xn Z 518 i0) - 1) (by omega) (by omega)
      refine Or.inr ⟨1 + j, ?_, by omega, h, h2, ?_⟩
      · rw [if_pos h, if_pos h2, e, ← nI_add]; rfl
      · rw [e, nI_clamp (by omega)]
    · exact Or.inl (by rw [if_pos h, if_neg h2])
  · exact Or.inl (if_neg h)
/-- what comes next is a place of the row, or END, or FAILS -/
theorem m_comes_nat {Z : Zt} {i0 : Nat} (hI : MI Z) (h1 : ¬ m_comes Z i0 = -1) (h2 : ¬ m_comes Z i0 = -2) : ∃ j, m_comes Z i0 = nI j ∧ j < xn Z 504 (xn Z 518 i0) ∧ xn Z 519 i0 < xn Z 504 (xn Z 518 i0) := by
  have k3 : ∀ r, m_c3 Z i0 = r → ¬ r = -1 → ¬ r = -2 → ∃ j, r = nI j ∧ j < xn Z 504 (xn Z 518 i0) ∧ xn Z 519 i0 < xn Z 504 (xn Z 518 i0) := by
    intro r hr n1 n2
    subst hr
    have kA : ¬ m_cA Z i0 = -1 → ∃ j, m_cA Z i0 = nI j ∧ j < xn Z 504 (xn Z 518 i0) ∧ xn Z 519 i0 < xn Z 504 (xn Z 518 i0) := fun n => by
      rcases m_cA_nat (i0 := i0) hI with q | q
      · exact absurd q n
      · exact ⟨_, q.1, q.2, q.2⟩
    unfold m_c3 at n1 n2 ⊢
    by_cases h3 : xi Z 503 (xn Z 518 i0) = 2
    · by_cases h4 : xn Z 519 i0 = 0
      · rw [if_pos h3, if_pos h4] at n1 ⊢; exact kA n1
      · rw [if_pos h3, if_neg h4] at n1 ⊢
        rcases m_cB_nat (i0 := i0) hI with q | ⟨j, q1, q2, q3, q4, -⟩
        · exact absurd q n1
        · exact ⟨j, q1, q2, by omega⟩
    · rw [if_neg h3] at n1 ⊢; exact kA n1
  have k2 : ∀ r, m_c2 Z i0 = r → ¬ r = -1 → ¬ r = -2 → ∃ j, r = nI j ∧ j < xn Z 504 (xn Z 518 i0) ∧ xn Z 519 i0 < xn Z 504 (xn Z 518 i0) := by
    intro r hr n1 n2
    unfold m_c2 at hr
    split at hr
    · split at hr
      · split at hr
        · exact absurd hr.symm n2
        · exact k3 r hr n1 n2
      · exact k3 r hr n1 n2
    · exact k3 r hr n1 n2
  have k1 : ∀ r, m_c1 Z i0 = r → ¬ r = -1 → ¬ r = -2 → ∃ j, r = nI j ∧ j < xn Z 504 (xn Z 518 i0) ∧ xn Z 519 i0 < xn Z 504 (xn Z 518 i0) := by
    intro r hr n1 n2
    unfold m_c1 at hr
    split at hr
    · split at hr
      · split at hr
        · exact k2 r hr n1 n2
        · exact absurd hr.symm n1
      · exact k2 r hr n1 n2
    · exact k2 r hr n1 n2
  have k0 : ∀ r, m_comes Z i0 = r → ¬ r = -1 → ¬ r = -2 → ∃ j, r = nI j ∧ j < xn Z 504 (xn Z 518 i0) ∧ xn Z 519 i0 < xn Z 504 (xn Z 518 i0) := by
    intro r hr n1 n2
    unfold m_comes at hr
    split at hr
    · split at hr
      · split at hr
        · exact absurd hr.symm n2
        · exact k1 r hr n1 n2
      · exact k1 r hr n1 n2
    · exact absurd hr.symm n2
  exact k0 _ rfl h1 h2
set_option maxHeartbeats 4000000 in
theorem cm_109 {p : Program} {l : Launch} {e : Env} {s : State} {m : MethodId} {args : Array Value} {below : List Frame} {meth : Method} {c : Code} {G : Gt} {ad : Nat → Nat → Nat} {ow : Nat → Nat × Nat} {Z : Zt} {H : Heap} {locs : List Loc} {ls : Array Slot} (hm : ML Z) (hI : MI Z) (i0 : Nat) (hi : i0 < 200) (r : Int32) (hr0 : m_c3 Z i0 = r) (hr : meth.sig.returnType = some .int) (hlk : meth.locks = false) (hd : Dy G ad ow Z s H locs) (hl : lv_has ls 5 [(4, .int (nI (xn Z 504 (xn Z 518 i0)))), (3, .int (nI (xn Z 519 i0))), (2, .int (nI (xn Z 518 i0))), (0, .ref (ad 10 0)), (1, .int (nI i0))]) (hC : Cx G p c m s args "KeyGraphModel" b_Mod_comes 5) : W p l e ({ frames := 2, cells := 0, slots := 0, locals := 44 } : Room) s m args below meth c H locs 0 0 (MQ below (Qd G ad ow Z (some (.int r))) args s 0 0 (zA G)) (F0 m 109 ls []) := by
  have hx := hC.1
  have hb := hC.2.1
  have h1 := hI.2.2.2.2.2.2.1 i0
  have h2 := hI.2.1 (xn Z 518 i0)
  have h3 := hI.2.2.2.2.2.2.2.1 i0
  refine lv_aload_n hx hb d_Mod_comes_109 rfl (lv_at hl 3 rfl) ?_
  refine zget hC hd (e_mod hm.1) rfl i_Mod 3 (by decide) q_656 (Or.inl rfl) (v := .ref (ad 11 3)) rfl d_Mod_comes_110 ?_
  refine lv_iload_n hx hb d_Mod_comes_113 rfl (lv_at hl 2 rfl) ?_
  refine ziaI (k := xn Z 518 i0) (f := xi Z 503) hC hd (e_m3 hm.2) (by omega) (by decide) d_Mod_comes_114 ?_
  refine lv_iconst (v := 2) hx hb d_Mod_comes_115 (by decide) ?_
  refine lv_icmp_ne (tgt := 123) hx hb d_Mod_comes_116 (by decide) (fun c116 => ?_) (fun c116 => ?_)
  · refine lv_iload_n hx hb d_Mod_comes_123 rfl (lv_at hl 1 rfl) ?_
    refine lv_iload hx hb d_Mod_comes_124 (lv_at hl 0 rfl) ?_
    refine zc_ge (x := xn Z 519 i0) (y := xn Z 504 (xn Z 518 i0)) (tgt := 133) (by omega) (by omega) hx hb d_Mod_comes_126 (by decide) (fun c126 => ?_) (fun c126 => ?_)
    · have c126' := Nat.not_lt.mpr c126
      refine lv_iconst (v := (-1)) hx hb d_Mod_comes_133 (by decide) ?_
      exact zfi hC hd hr hlk d_Mod_comes_134 (by rw [← hr0]; unfold m_c3 m_cA m_cB; (repeat (first | (rw [if_pos]; rotate_left; first | assumption | decide) | (rw [if_neg]; rotate_left; first | assumption | decide))) <;> (try rfl)) rfl
    · have c126' := Nat.not_le.mpr c126
      refine lv_iload_n hx hb d_Mod_comes_129 rfl (lv_at hl 1 rfl) ?_
      refine lv_goto (tgt := 134) hx hb d_Mod_comes_130 (by decide) ?_
      exact zfi hC hd hr hlk d_Mod_comes_134 (by rw [← hr0]; unfold m_c3 m_cA m_cB; (repeat (first | (rw [if_pos]; rotate_left; first | assumption | decide) | (rw [if_neg]; rotate_left; first | assumption | decide))) <;> (try rfl)) rfl
  · refine lv_iload_n hx hb d_Mod_comes_119 rfl (lv_at hl 1 rfl) ?_
    refine zi_ne (x := xn Z 519 i0) (tgt := 135) (by omega) hx hb d_Mod_comes_120 (by decide) (fun c120 => ?_) (fun c120 => ?_)
    · have c120' := zi_p c120
      refine lv_iload_n hx hb d_Mod_comes_135 rfl (lv_at hl 1 rfl) ?_
      refine lv_iconst (v := 1) hx hb d_Mod_comes_136 (by decide) ?_
      refine zc_ne (x := xn Z 519 i0) (y := 1) (tgt := 164) (by omega) (by omega) hx hb d_Mod_comes_137 (by decide) (fun c137 => ?_) (fun c137 => ?_)
      · refine lv_iconst (v := (-1)) hx hb d_Mod_comes_164 (by decide) ?_
        exact zfi hC hd hr hlk d_Mod_comes_165 (by rw [← hr0]; unfold m_c3 m_cA m_cB; (repeat (first | (rw [if_pos]; rotate_left; first | assumption | decide) | (rw [if_neg]; rotate_left; first | assumption | decide))) <;> (try rfl)) rfl
      · refine lv_iload hx hb d_Mod_comes_140 (lv_at hl 0 rfl) ?_
        refine lv_iconst (v := 1) hx hb d_Mod_comes_142 (by decide) ?_
        refine zc_le (x := xn Z 504 (xn Z 518 i0)) (y := 1) (tgt := 164) (by omega) (by omega) hx hb d_Mod_comes_143 (by decide) (fun c143 => ?_) (fun c143 => ?_)
        · have c143' := Nat.not_lt.mpr c143
          refine lv_iconst (v := (-1)) hx hb d_Mod_comes_164 (by decide) ?_
          exact zfi hC hd hr hlk d_Mod_comes_165 (by rw [← hr0]; unfold m_c3 m_cA m_cB; (repeat (first | (rw [if_pos]; rotate_left; first | assumption | decide) | (rw [if_neg]; rotate_left; first | assumption | decide))) <;> (try rfl)) rfl
        · have c143' := Nat.not_le.mpr c143
          refine lv_iconst (v := 1) hx hb d_Mod_comes_146 (by decide) ?_
          refine lv_aload_n hx hb d_Mod_comes_147 rfl (lv_at hl 3 rfl) ?_
          refine lv_iload_n hx hb d_Mod_comes_148 rfl (lv_at hl 4 rfl) ?_
          refine lv_iconst (v := 0) hx hb d_Mod_comes_149 (by decide) ?_
          refine zb_l (r := (m_taken Z i0 0)) hd (zrunV (n := 2) (rest := [.int 1]) hC hd (e_mod hm.1) rfl (c_Mod_taken l G ad ow Z hm hI i0 0 (by omega) (by omega)) q_833 q_835 qp_32 q_6 q_836 rfl rfl rfl (by decide +kernel) ⟨by decide, by decide⟩ rfl hl.1 (Nat.le_of_ble_eq_true rfl) d_Mod_comes_150 ⟨by decide, by decide⟩) (fun H locs hd => ?_)
          refine lv_iload hx hb d_Mod_comes_153 (lv_at hl 0 rfl) ?_
          refine lv_iconst (v := 1) hx hb d_Mod_comes_155 (by decide) ?_
          refine zsubN (x := xn Z 504 (xn Z 518 i0)) (y := 1) (by omega) hx hb d_Mod_comes_156 ?_
          refine zb_i (r := (m_rem (m_taken Z i0 0) ((xn Z 504 (xn Z 518 i0)) - 1))) hd (zrunS (n := 2) (rest := [.int 1]) hC hd (c_Mod_remainder l G ad ow Z (m_taken Z i0 0) ((xn Z 504 (xn Z 518 i0)) - 1) (by omega) (by omega)) q_837 q_838 q_6 q_839 rfl rfl rfl (by decide +kernel) ⟨by decide, by decide⟩ rfl hl.1 (Nat.le_of_ble_eq_true rfl) d_Mod_comes_157 ⟨by decide, by decide⟩) (fun H locs hd => ?_)
          refine lv_iadd hx hb d_Mod_comes_160 ?_
          refine lv_goto (tgt := 165) hx hb d_Mod_comes_161 (by decide) ?_
          exact zfi hC hd hr hlk d_Mod_comes_165 (by rw [← hr0]; unfold m_c3 m_cA m_cB; (repeat (first | (rw [if_pos]; rotate_left; first | assumption | decide) | (rw [if_neg]; rotate_left; first | assumption | decide))) <;> (try rfl)) rfl
    · have c120' := zi_z c120
      refine lv_iload_n hx hb d_Mod_comes_123 rfl (lv_at hl 1 rfl) ?_
      refine lv_iload hx hb d_Mod_comes_124 (lv_at hl 0 rfl) ?_
      refine zc_ge (x := xn Z 519 i0) (y := xn Z 504 (xn Z 518 i0)) (tgt := 133) (by omega) (by omega) hx hb d_Mod_comes_126 (by decide) (fun c126 => ?_) (fun c126 => ?_)
      · have c126' := Nat.not_lt.mpr c126
        refine lv_iconst (v := (-1)) hx hb d_Mod_comes_133 (by decide) ?_
        exact zfi hC hd hr hlk d_Mod_comes_134 (by rw [← hr0]; unfold m_c3 m_cA m_cB; (repeat (first | (rw [if_pos]; rotate_left; first | assumption | decide) | (rw [if_neg]; rotate_left; first | assumption | decide))) <;> (try rfl)) rfl
      · have c126' := Nat.not_le.mpr c126
        refine lv_iload_n hx hb d_Mod_comes_129 rfl (lv_at hl 1 rfl) ?_
        refine lv_goto (tgt := 134) hx hb d_Mod_comes_130 (by decide) ?_
        exact zfi hC hd hr hlk d_Mod_comes_134 (by rw [← hr0]; unfold m_c3 m_cA m_cB; (repeat (first | (rw [if_pos]; rotate_left; first | assumption | decide) | (rw [if_neg]; rotate_left; first | assumption | decide))) <;> (try rfl)) rfl
set_option maxHeartbeats 4000000 in
theorem cm_78 {p : Program} {l : Launch} {e : Env} {s : State} {m : MethodId} {args : Array Value} {below : List Frame} {meth : Method} {c : Code} {G : Gt} {ad : Nat → Nat → Nat} {ow : Nat → Nat × Nat} {Z : Zt} {H : Heap} {locs : List Loc} {ls : Array Slot} (hm : ML Z) (hI : MI Z) (i0 : Nat) (hi : i0 < 200) (r : Int32) (hr0 : m_c2 Z i0 = r) (hr : meth.sig.returnType = some .int) (hlk : meth.locks = false) (hd : Dy G ad ow Z s H locs) (hl : lv_has ls 5 [(4, .int (nI (xn Z 504 (xn Z 518 i0)))), (3, .int (nI (xn Z 519 i0))), (2, .int (nI (xn Z 518 i0))), (0, .ref (ad 10 0)), (1, .int (nI i0))]) (hC : Cx G p c m s args "KeyGraphModel" b_Mod_comes 5) : W p l e ({ frames := 2, cells := 0, slots := 0, locals := 44 } : Room) s m args below meth c H locs 0 0 (MQ below (Qd G ad ow Z (some (.int r))) args s 0 0 (zA G)) (F0 m 78 ls []) := by
  have hx := hC.1
  have hb := hC.2.1
  have h1 := hI.2.2.2.2.2.2.1 i0
  have h2 := hI.2.1 (xn Z 518 i0)
  have h3 := hI.2.2.2.2.2.2.2.1 i0
  refine lv_aload_n hx hb d_Mod_comes_78 rfl (lv_at hl 3 rfl) ?_
  refine zget hC hd (e_mod hm.1) rfl i_Mod 3 (by decide) q_656 (Or.inl rfl) (v := .ref (ad 11 3)) rfl d_Mod_comes_79 ?_
  refine lv_iload_n hx hb d_Mod_comes_82 rfl (lv_at hl 2 rfl) ?_
  refine ziaI (k := xn Z 518 i0) (f := xi Z 503) hC hd (e_m3 hm.2) (by omega) (by decide) d_Mod_comes_83 ?_
  refine lv_iconst (v := 3) hx hb d_Mod_comes_84 (by decide) ?_
  refine lv_icmp_ne (tgt := 109) hx hb d_Mod_comes_85 (by decide) (fun c85 => ?_) (fun c85 => ?_)
  · exact cm_109 hm hI i0 hi r (by rw [← hr0]; unfold m_c2; (repeat (first | (rw [if_pos]; rotate_left; first | assumption | decide) | (rw [if_neg]; rotate_left; first | assumption | decide))) <;> (try rfl)) hr hlk hd hl hC
  · refine lv_iload_n hx hb d_Mod_comes_88 rfl (lv_at hl 1 rfl) ?_
    refine lv_iconst (v := 1) hx hb d_Mod_comes_89 (by decide) ?_
    refine zc_le (x := xn Z 519 i0) (y := 1) (tgt := 109) (by omega) (by omega) hx hb d_Mod_comes_90 (by decide) (fun c90 => ?_) (fun c90 => ?_)
    · have c90' := Nat.not_lt.mpr c90
      exact cm_109 hm hI i0 hi r (by rw [← hr0]; unfold m_c2; (repeat (first | (rw [if_pos]; rotate_left; first | assumption | decide) | (rw [if_neg]; rotate_left; first | assumption | decide))) <;> (try rfl)) hr hlk hd hl hC
    · have c90' := Nat.not_le.mpr c90
      refine lv_aload_n hx hb d_Mod_comes_93 rfl (lv_at hl 3 rfl) ?_
      refine lv_iload_n hx hb d_Mod_comes_94 rfl (lv_at hl 4 rfl) ?_
      refine lv_iload_n hx hb d_Mod_comes_95 rfl (lv_at hl 1 rfl) ?_
      refine lv_iconst (v := 1) hx hb d_Mod_comes_96 (by decide) ?_
      refine zsubN (x := xn Z 519 i0) (y := 1) (by omega) hx hb d_Mod_comes_97 ?_
      refine zb_l (r := (m_taken Z i0 ((xn Z 519 i0) - 1))) hd (zrunV (n := 2) (rest := []) hC hd (e_mod hm.1) rfl (c_Mod_taken l G ad ow Z hm hI i0 ((xn Z 519 i0) - 1) (by omega) (by omega)) q_833 q_835 qp_32 q_6 q_836 rfl rfl rfl (by decide +kernel) ⟨by decide, by decide⟩ rfl hl.1 (Nat.le_of_ble_eq_true rfl) d_Mod_comes_98 ⟨by decide, by decide⟩) (fun H locs hd => ?_)
      refine lv_lconst (v := 0) hx hb d_Mod_comes_101 (by decide) ?_
      refine W.lcmp hx hb d_Mod_comes_102 ?_
      refine lv_if_ne (tgt := 109) hx hb d_Mod_comes_103 (by decide) (fun c103 => ?_) (fun c103 => ?_)
      · simp only [ne_eq, lg_cmp_eq, lg_cmp_le, lg_cmp_lt, lg_cmp_ge, lg_cmp_gt] at c103
        exact cm_109 hm hI i0 hi r (by rw [← hr0]; unfold m_c2; (repeat (first | (rw [if_pos]; rotate_left; first | assumption | decide) | (rw [if_neg]; rotate_left; first | assumption | decide))) <;> (try rfl)) hr hlk hd hl hC
      · simp only [ne_eq, lg_cmp_eq, lg_cmp_le, lg_cmp_lt, lg_cmp_ge, lg_cmp_gt] at c103
        refine lv_bipush (v := (-2)) hx hb d_Mod_comes_106 (by decide) ?_
        exact zfi hC hd hr hlk d_Mod_comes_108 (by rw [← hr0]; unfold m_c2; (repeat (first | (rw [if_pos]; rotate_left; first | assumption | decide) | (rw [if_neg]; rotate_left; first | assumption | decide))) <;> (try rfl)) rfl
set_option maxHeartbeats 4000000 in
theorem cm_49 {p : Program} {l : Launch} {e : Env} {s : State} {m : MethodId} {args : Array Value} {below : List Frame} {meth : Method} {c : Code} {G : Gt} {ad : Nat → Nat → Nat} {ow : Nat → Nat × Nat} {Z : Zt} {H : Heap} {locs : List Loc} {ls : Array Slot} (hm : ML Z) (hI : MI Z) (i0 : Nat) (hi : i0 < 200) (r : Int32) (hr0 : m_c1 Z i0 = r) (hr : meth.sig.returnType = some .int) (hlk : meth.locks = false) (hd : Dy G ad ow Z s H locs) (hl : lv_has ls 5 [(4, .int (nI (xn Z 504 (xn Z 518 i0)))), (3, .int (nI (xn Z 519 i0))), (2, .int (nI (xn Z 518 i0))), (0, .ref (ad 10 0)), (1, .int (nI i0))]) (hC : Cx G p c m s args "KeyGraphModel" b_Mod_comes 5) : W p l e ({ frames := 2, cells := 0, slots := 0, locals := 44 } : Room) s m args below meth c H locs 0 0 (MQ below (Qd G ad ow Z (some (.int r))) args s 0 0 (zA G)) (F0 m 49 ls []) := by
  have hx := hC.1
  have hb := hC.2.1
  have h1 := hI.2.2.2.2.2.2.1 i0
  have h2 := hI.2.1 (xn Z 518 i0)
  have h3 := hI.2.2.2.2.2.2.2.1 i0
  refine lv_aload_n hx hb d_Mod_comes_49 rfl (lv_at hl 3 rfl) ?_
  refine zget hC hd (e_mod hm.1) rfl i_Mod 3 (by decide) q_656 (Or.inl rfl) (v := .ref (ad 11 3)) rfl d_Mod_comes_50 ?_
  refine lv_iload_n hx hb d_Mod_comes_53 rfl (lv_at hl 2 rfl) ?_
  refine ziaI (k := xn Z 518 i0) (f := xi Z 503) hC hd (e_m3 hm.2) (by omega) (by decide) d_Mod_comes_54 ?_
  refine lv_iconst (v := 1) hx hb d_Mod_comes_55 (by decide) ?_
  refine lv_icmp_ne (tgt := 78) hx hb d_Mod_comes_56 (by decide) (fun c56 => ?_) (fun c56 => ?_)
  · exact cm_78 hm hI i0 hi r (by rw [← hr0]; unfold m_c1; (repeat (first | (rw [if_pos]; rotate_left; first | assumption | decide) | (rw [if_neg]; rotate_left; first | assumption | decide))) <;> (try rfl)) hr hlk hd hl hC
  · refine lv_iload_n hx hb d_Mod_comes_59 rfl (lv_at hl 1 rfl) ?_
    refine zi_le (x := xn Z 519 i0) (tgt := 78) (by omega) hx hb d_Mod_comes_60 (by decide) (fun c60 => ?_) (fun c60 => ?_)
    · have c60' := zi_z c60
      exact cm_78 hm hI i0 hi r (by rw [← hr0]; unfold m_c1; (repeat (first | (rw [if_pos]; rotate_left; first | assumption | decide) | (rw [if_neg]; rotate_left; first | assumption | decide))) <;> (try rfl)) hr hlk hd hl hC
    · have c60' := zi_p c60
      refine lv_aload_n hx hb d_Mod_comes_63 rfl (lv_at hl 3 rfl) ?_
      refine lv_iload_n hx hb d_Mod_comes_64 rfl (lv_at hl 4 rfl) ?_
      refine lv_iload_n hx hb d_Mod_comes_65 rfl (lv_at hl 1 rfl) ?_
      refine lv_iconst (v := 1) hx hb d_Mod_comes_66 (by decide) ?_
      refine zsubN (x := xn Z 519 i0) (y := 1) (by omega) hx hb d_Mod_comes_67 ?_
      refine zb_l (r := (m_taken Z i0 ((xn Z 519 i0) - 1))) hd (zrunV (n := 2) (rest := []) hC hd (e_mod hm.1) rfl (c_Mod_taken l G ad ow Z hm hI i0 ((xn Z 519 i0) - 1) (by omega) (by omega)) q_833 q_835 qp_32 q_6 q_836 rfl rfl rfl (by decide +kernel) ⟨by decide, by decide⟩ rfl hl.1 (Nat.le_of_ble_eq_true rfl) d_Mod_comes_68 ⟨by decide, by decide⟩) (fun H locs hd => ?_)
      refine lv_lconst (v := 0) hx hb d_Mod_comes_71 (by decide) ?_
      refine W.lcmp hx hb d_Mod_comes_72 ?_
      refine lv_if_eq (tgt := 78) hx hb d_Mod_comes_73 (by decide) (fun c73 => ?_) (fun c73 => ?_)
      · simp only [ne_eq, lg_cmp_eq, lg_cmp_le, lg_cmp_lt, lg_cmp_ge, lg_cmp_gt] at c73
        exact cm_78 hm hI i0 hi r (by rw [← hr0]; unfold m_c1; (repeat (first | (rw [if_pos]; rotate_left; first | assumption | decide) | (rw [if_neg]; rotate_left; first | assumption | decide))) <;> (try rfl)) hr hlk hd hl hC
      · simp only [ne_eq, lg_cmp_eq, lg_cmp_le, lg_cmp_lt, lg_cmp_ge, lg_cmp_gt] at c73
        refine lv_iconst (v := (-1)) hx hb d_Mod_comes_76 (by decide) ?_
        exact zfi hC hd hr hlk d_Mod_comes_77 (by rw [← hr0]; unfold m_c1; (repeat (first | (rw [if_pos]; rotate_left; first | assumption | decide) | (rw [if_neg]; rotate_left; first | assumption | decide))) <;> (try rfl)) rfl
set_option maxHeartbeats 4000000 in
theorem c_Mod_comes (l : Launch) (G : Gt) (ad : Nat → Nat → Nat) (ow : Nat → Nat × Nat) (Z : Zt) (hm : ML Z) (hI : MI Z) (i0 : Nat) (hi : i0 < 200) (r : Int32) (hr0 : m_comes Z i0 = r) : Met l y_Mod_comes w_Mod_comes ({ frames := 2, cells := 0, slots := 0, locals := 44 }) (zPc G ad ow Z [.ref (ad 10 0), .int (nI i0)]) (Qd G ad ow Z (some (.int r))) 0 0 (zA G) := by
  refine zopen (cc := b_Mod_comes) (maxL := 5) (ret := (some FieldType.int)) (by decide) rfl (Nat.le_of_ble_eq_true rfl) ?_
  intro p e s m below meth c ls hC hr hlk hnm hd hl
  have hC : Cx G p c m s _ "KeyGraphModel" b_Mod_comes 5 := hC
  have hl : lv_has ls 5 [(0, .ref (ad 10 0)), (1, .int (nI i0))] := hl
  have hx := hC.1
  have hb := hC.2.1
  have h1 := hI.2.2.2.2.2.2.1 i0
  have h2 := hI.2.1 (xn Z 518 i0)
  have h3 := hI.2.2.2.2.2.2.2.1 i0
  refine lv_aload_n hx hb d_Mod_comes_0 rfl (lv_at hl 0 rfl) ?_
  refine zget hC hd (e_mod hm.1) rfl i_Mod 18 (by decide) q_671 (Or.inl rfl) (v := .ref (ad 11 18)) rfl d_Mod_comes_1 ?_
  refine lv_iload_n hx hb d_Mod_comes_4 rfl (lv_at hl 1 rfl) ?_
  refine ziaN (k := i0) (f := xn Z 518) hC hd (e_m18 hm.2) (by omega) (by decide) d_Mod_comes_5 ?_
  refine lv_istore_n (lv' := [(2, .int (nI (xn Z 518 i0))), (0, .ref (ad 10 0)), (1, .int (nI i0))]) hx hb d_Mod_comes_6 rfl hl (by decide) rfl (fun ls hl => ?_)
  refine lv_aload_n hx hb d_Mod_comes_7 rfl (lv_at hl 1 rfl) ?_
  refine zget hC hd (e_mod hm.1) rfl i_Mod 19 (by decide) q_672 (Or.inl rfl) (v := .ref (ad 11 19)) rfl d_Mod_comes_8 ?_
  refine lv_iload_n hx hb d_Mod_comes_11 rfl (lv_at hl 2 rfl) ?_
  refine ziaN (k := i0) (f := xn Z 519) hC hd (e_m19 hm.2) (by omega) (by decide) d_Mod_comes_12 ?_
  refine lv_istore_n (lv' := [(3, .int (nI (xn Z 519 i0))), (2, .int (nI (xn Z 518 i0))), (0, .ref (ad 10 0)), (1, .int (nI i0))]) hx hb d_Mod_comes_13 rfl hl (by decide) rfl (fun ls hl => ?_)
  refine lv_aload_n hx hb d_Mod_comes_14 rfl (lv_at hl 2 rfl) ?_
  refine zget hC hd (e_mod hm.1) rfl i_Mod 4 (by decide) q_657 (Or.inl rfl) (v := .ref (ad 11 4)) rfl d_Mod_comes_15 ?_
  refine lv_iload_n hx hb d_Mod_comes_18 rfl (lv_at hl 1 rfl) ?_
  refine ziaN (k := xn Z 518 i0) (f := xn Z 504) hC hd (e_m4 hm.2) (by omega) (by decide) d_Mod_comes_19 ?_
  refine lv_istore (lv' := [(4, .int (nI (xn Z 504 (xn Z 518 i0)))), (3, .int (nI (xn Z 519 i0))), (2, .int (nI (xn Z 518 i0))), (0, .ref (ad 10 0)), (1, .int (nI i0))]) hx hb d_Mod_comes_20 hl (by decide) rfl (fun ls hl => ?_)
  refine lv_aload_n hx hb d_Mod_comes_22 rfl (lv_at hl 3 rfl) ?_
  refine zget hC hd (e_mod hm.1) rfl i_Mod 15 (by decide) q_668 (Or.inl rfl) (v := .ref (ad 11 15)) rfl d_Mod_comes_23 ?_
  refine lv_iload_n hx hb d_Mod_comes_26 rfl (lv_at hl 2 rfl) ?_
  refine zzaI (k := xn Z 518 i0) (f := xi Z 515) hC hd (e_m15 hm.2) (by omega) (by decide) d_Mod_comes_27 ?_
  refine lv_if_ne (tgt := 46) hx hb d_Mod_comes_28 (by decide) (fun c28 => ?_) (fun c28 => ?_)
  · refine lv_bipush (v := (-2)) hx hb d_Mod_comes_46 (by decide) ?_
    exact zfi hC hd hr hlk d_Mod_comes_48 (by rw [← hr0]; unfold m_comes; (repeat (first | (rw [if_pos]; rotate_left; first | assumption | decide) | (rw [if_neg]; rotate_left; first | assumption | decide))) <;> (try rfl)) rfl
  · refine lv_aload_n hx hb d_Mod_comes_31 rfl (lv_at hl 3 rfl) ?_
    refine zget hC hd (e_mod hm.1) rfl i_Mod 3 (by decide) q_656 (Or.inl rfl) (v := .ref (ad 11 3)) rfl d_Mod_comes_32 ?_
    refine lv_iload_n hx hb d_Mod_comes_35 rfl (lv_at hl 2 rfl) ?_
    refine ziaI (k := xn Z 518 i0) (f := xi Z 503) hC hd (e_m3 hm.2) (by omega) (by decide) d_Mod_comes_36 ?_
    refine lv_iconst (v := 5) hx hb d_Mod_comes_37 (by decide) ?_
    refine lv_icmp_ne (tgt := 49) hx hb d_Mod_comes_38 (by decide) (fun c38 => ?_) (fun c38 => ?_)
    · exact cm_49 hm hI i0 hi r (by rw [← hr0]; unfold m_comes; (repeat (first | (rw [if_pos]; rotate_left; first | assumption | decide) | (rw [if_neg]; rotate_left; first | assumption | decide))) <;> (try rfl)) hr hlk hd hl hC
    · refine lv_iload hx hb d_Mod_comes_41 (lv_at hl 0 rfl) ?_
      refine zi_ne (x := xn Z 504 (xn Z 518 i0)) (tgt := 49) (by omega) hx hb d_Mod_comes_43 (by decide) (fun c43 => ?_) (fun c43 => ?_)
      · have c43' := zi_p c43
        exact cm_49 hm hI i0 hi r (by rw [← hr0]; unfold m_comes; (repeat (first | (rw [if_pos]; rotate_left; first | assumption | decide) | (rw [if_neg]; rotate_left; first | assumption | decide))) <;> (try rfl)) hr hlk hd hl hC
      · have c43' := zi_z c43
        refine lv_bipush (v := (-2)) hx hb d_Mod_comes_46 (by decide) ?_
        exact zfi hC hd hr hlk d_Mod_comes_48 (by rw [← hr0]; unfold m_comes; (repeat (first | (rw [if_pos]; rotate_left; first | assumption | decide) | (rw [if_neg]; rotate_left; first | assumption | decide))) <;> (try rfl)) rfl
set_option maxHeartbeats 4000000 in
theorem lp_Mod_outcome {p : Program} {l : Launch} {e : Env} {s : State} {m : MethodId} {args : Array Value} {below : List Frame} {meth : Method} {c : Code} {Q : State → Prop} {G : Gt} {ad : Nat → Nat → Nat} {ow : Nat → Nat × Nat} {Z : Zt} (hm : ML Z) (hI : MI Z) (i0 : Nat) (hi0 : i0 < 200) (hz : (xi Z 503 (xn Z 518 i0)) = 3 → ∀ j, 1 ≤ j → j < xn Z 519 i0 → ¬ m_taken Z i0 j = 0) (hC : Cx G p c m s args "KeyGraphModel" b_Mod_outcome 9) : ∀ (n i : Nat) (v : Int64) (ls : Array Slot) (H : Heap) (locs : List Loc), 1 ≤ i → (i + n = xn Z 519 i0 ∨ (xn Z 519 i0 ≤ i ∧ n = 0)) → i ≤ 8 → Dy G ad ow Z s H locs → lv_has ls 9 [(6, .int (nI i)), (4, .long v), (3, .int (nI (xn Z 519 i0))), (2, .int (xi Z 503 (xn Z 518 i0))), (0, .ref (ad 10 0)), (1, .int (nI i0))] → (∀ (ls : Array Slot) (H : Heap) (locs : List Loc) (q : Nat), Dy G ad ow Z s H locs → lv_has ls 9 [(6, .int (nI q)), (4, .long (m_ocL Z i0 (xi Z 503 (xn Z 518 i0)) i v n)), (3, .int (nI (xn Z 519 i0))), (2, .int (xi Z 503 (xn Z 518 i0))), (0, .ref (ad 10 0)), (1, .int (nI i0))] → W p l e ({ frames := 2, cells := 0, slots := 0, locals := 44 } : Room) s m args below meth c H locs 0 0 Q (F0 m 151 ls [])) → W p l e ({ frames := 2, cells := 0, slots := 0, locals := 44 } : Room) s m args below meth c H locs 0 0 Q (F0 m 59 ls []) := by
  have hx := hC.1
  have hb := hC.2.1
  have h1 := hI.2.2.2.2.2.2.1 i0
  have h3 := hI.2.2.2.2.2.2.2.1 i0
  intro n
  induction n with
  | zero =>
    intro i v ls H locs hi1 hi hi8 hd hl kk
    refine lv_iload hx hb d_Mod_outcome_59 (lv_at hl 0 rfl) ?_
    refine lv_iload_n hx hb d_Mod_outcome_61 rfl (lv_at hl 2 rfl) ?_
    refine zc_ge (x := i) (y := xn Z 519 i0) (tgt := 151) (by omega) (by omega) hx hb d_Mod_outcome_62 (by decide) (fun c62 => ?_) (fun c62 => absurd hi (by omega))
    exact kk ls H locs i hd hl
  | succ n ih =>
    intro i v ls H locs hi1 hi hi8 hd hl kk
    have hi9 : i + (n + 1) = xn Z 519 i0 := by omega
    refine lv_iload hx hb d_Mod_outcome_59 (lv_at hl 0 rfl) ?_
    refine lv_iload_n hx hb d_Mod_outcome_61 rfl (lv_at hl 2 rfl) ?_
    refine zc_ge (x := i) (y := xn Z 519 i0) (tgt := 151) (by omega) (by omega) hx hb d_Mod_outcome_62 (by decide) (fun c62 => absurd hi (by omega)) (fun c62 => ?_)
    refine lv_aload_n hx hb d_Mod_outcome_65 rfl (lv_at hl 4 rfl) ?_
    refine lv_iload_n hx hb d_Mod_outcome_66 rfl (lv_at hl 5 rfl) ?_
    refine lv_iload hx hb d_Mod_outcome_67 (lv_at hl 0 rfl) ?_
    refine zb_l (r := (m_taken Z i0 i)) hd (zrunV (n := 2) (rest := []) hC hd (e_mod hm.1) rfl (c_Mod_taken l G ad ow Z hm hI i0 i (by omega) (by omega)) q_833 q_835 qp_32 q_6 q_836 rfl rfl rfl (by decide +kernel) ⟨by decide, by decide⟩ rfl hl.1 (Nat.le_of_ble_eq_true rfl) d_Mod_outcome_69 ⟨by decide, by decide⟩) (fun H locs hd => ?_)
    refine lv_lstore (lv' := [(7, .long (m_taken Z i0 i)), (6, .int (nI i)), (4, .long v), (3, .int (nI (xn Z 519 i0))), (2, .int (xi Z 503 (xn Z 518 i0))), (0, .ref (ad 10 0)), (1, .int (nI i0))]) hx hb d_Mod_outcome_72 hl (by decide) rfl (fun ls hl => ?_)
    refine lv_iload_n hx hb d_Mod_outcome_74 rfl (lv_at hl 4 rfl) ?_
    refine lv_if_eq (tgt := 83) hx hb d_Mod_outcome_75 (by decide) (fun c75 => ?_) (fun c75 => ?_)
    · refine lv_lload hx hb d_Mod_outcome_83 (lv_at hl 2 rfl) ?_
      refine lv_lload hx hb d_Mod_outcome_85 (lv_at hl 0 rfl) ?_
      refine lv_ladd hx hb d_Mod_outcome_87 ?_
      refine lv_lstore (lv' := [(4, .long (v + (m_taken Z i0 i))), (7, .long (m_taken Z i0 i)), (6, .int (nI i)), (3, .int (nI (xn Z 519 i0))), (2, .int (xi Z 503 (xn Z 518 i0))), (0, .ref (ad 10 0)), (1, .int (nI i0))]) hx hb d_Mod_outcome_88 hl (by decide) rfl (fun ls hl => ?_)
      refine lv_goto (tgt := 145) hx hb d_Mod_outcome_90 (by decide) ?_
      refine lv_iinc (v := (nI (i + 1))) (lv' := [(6, .int (nI (i + 1))), (4, .long (v + (m_taken Z i0 i))), (7, .long (m_taken Z i0 i)), (3, .int (nI (xn Z 519 i0))), (2, .int (xi Z 503 (xn Z 518 i0))), (0, .ref (ad 10 0)), (1, .int (nI i0))]) hx hb d_Mod_outcome_145 hl (k := 2) rfl (by rw [show Int32.ofInt 1 = nI 1 from by decide]; exact nI_add _ _) (by decide) rfl (fun ls hl => ?_)
      refine lv_goto (tgt := 59) hx hb d_Mod_outcome_148 (by decide) ?_
      refine ih (i + 1) _ ls H locs (by omega) (by omega) (by omega) hd (lv_sub hl [0, 1, 3, 4, 5, 6] rfl) (fun ls H locs q hd hl => kk ls H locs q hd ?_)
      have e2 : m_ocS Z i0 (xi Z 503 (xn Z 518 i0)) v i = (v + (m_taken Z i0 i)) := by unfold m_ocS; (repeat (first | (rw [if_pos]; rotate_left; first | assumption | decide) | (rw [if_neg]; rotate_left; first | assumption | decide))) <;> (try rfl)
      have e1 : m_ocL Z i0 (xi Z 503 (xn Z 518 i0)) i v (n + 1) = m_ocL Z i0 (xi Z 503 (xn Z 518 i0)) (i + 1) (v + (m_taken Z i0 i)) n := congrArg (fun q => m_ocL Z i0 (xi Z 503 (xn Z 518 i0)) (i + 1) q n) e2
      rw [e1]; exact hl
    · refine lv_iload_n hx hb d_Mod_outcome_78 rfl (lv_at hl 4 rfl) ?_
      refine lv_iconst (v := 4) hx hb d_Mod_outcome_79 (by decide) ?_
      refine lv_icmp_ne (tgt := 93) hx hb d_Mod_outcome_80 (by decide) (fun c80 => ?_) (fun c80 => ?_)
      · refine lv_iload_n hx hb d_Mod_outcome_93 rfl (lv_at hl 4 rfl) ?_
        refine lv_iconst (v := 3) hx hb d_Mod_outcome_94 (by decide) ?_
        refine lv_icmp_ne (tgt := 123) hx hb d_Mod_outcome_95 (by decide) (fun c95 => ?_) (fun c95 => ?_)
        · refine lv_iload_n hx hb d_Mod_outcome_123 rfl (lv_at hl 4 rfl) ?_
          refine lv_iconst (v := 5) hx hb d_Mod_outcome_124 (by decide) ?_
          refine lv_icmp_ne (tgt := 145) hx hb d_Mod_outcome_125 (by decide) (fun c125 => ?_) (fun c125 => ?_)
          · refine lv_iinc (v := (nI (i + 1))) (lv' := [(6, .int (nI (i + 1))), (7, .long (m_taken Z i0 i)), (4, .long v), (3, .int (nI (xn Z 519 i0))), (2, .int (xi Z 503 (xn Z 518 i0))), (0, .ref (ad 10 0)), (1, .int (nI i0))]) hx hb d_Mod_outcome_145 hl (k := 1) rfl (by rw [show Int32.ofInt 1 = nI 1 from by decide]; exact nI_add _ _) (by decide) rfl (fun ls hl => ?_)
            refine lv_goto (tgt := 59) hx hb d_Mod_outcome_148 (by decide) ?_
            refine ih (i + 1) _ ls H locs (by omega) (by omega) (by omega) hd (lv_sub hl [0, 2, 3, 4, 5, 6] rfl) (fun ls H locs q hd hl => kk ls H locs q hd ?_)
            have e2 : m_ocS Z i0 (xi Z 503 (xn Z 518 i0)) v i = v := by unfold m_ocS; (repeat (first | (rw [if_pos]; rotate_left; first | assumption | decide) | (rw [if_neg]; rotate_left; first | assumption | decide))) <;> (try rfl)
            have e1 : m_ocL Z i0 (xi Z 503 (xn Z 518 i0)) i v (n + 1) = m_ocL Z i0 (xi Z 503 (xn Z 518 i0)) (i + 1) v n := congrArg (fun q => m_ocL Z i0 (xi Z 503 (xn Z 518 i0)) (i + 1) q n) e2
            rw [e1]; exact hl
          · refine lv_lload hx hb d_Mod_outcome_128 (lv_at hl 0 rfl) ?_
            refine lv_lload hx hb d_Mod_outcome_130 (lv_at hl 2 rfl) ?_
            refine W.lcmp hx hb d_Mod_outcome_132 ?_
            refine lv_if_le (tgt := 141) hx hb d_Mod_outcome_133 (by decide) (fun c133 => ?_) (fun c133 => ?_)
            · simp only [ne_eq, lg_cmp_eq, lg_cmp_le, lg_cmp_lt, lg_cmp_ge, lg_cmp_gt] at c133
              refine lv_lload hx hb d_Mod_outcome_141 (lv_at hl 2 rfl) ?_
              refine lv_lstore (lv' := [(4, .long v), (7, .long (m_taken Z i0 i)), (6, .int (nI i)), (3, .int (nI (xn Z 519 i0))), (2, .int (xi Z 503 (xn Z 518 i0))), (0, .ref (ad 10 0)), (1, .int (nI i0))]) hx hb d_Mod_outcome_143 hl (by decide) rfl (fun ls hl => ?_)
              refine lv_iinc (v := (nI (i + 1))) (lv' := [(6, .int (nI (i + 1))), (4, .long v), (7, .long (m_taken Z i0 i)), (3, .int (nI (xn Z 519 i0))), (2, .int (xi Z 503 (xn Z 518 i0))), (0, .ref (ad 10 0)), (1, .int (nI i0))]) hx hb d_Mod_outcome_145 hl (k := 2) rfl (by rw [show Int32.ofInt 1 = nI 1 from by decide]; exact nI_add _ _) (by decide) rfl (fun ls hl => ?_)
              refine lv_goto (tgt := 59) hx hb d_Mod_outcome_148 (by decide) ?_
              refine ih (i + 1) _ ls H locs (by omega) (by omega) (by omega) hd (lv_sub hl [0, 1, 3, 4, 5, 6] rfl) (fun ls H locs q hd hl => kk ls H locs q hd ?_)
              have e2 : m_ocS Z i0 (xi Z 503 (xn Z 518 i0)) v i = v := by unfold m_ocS; (repeat (first | (rw [if_pos]; rotate_left; first | assumption | decide) | (rw [if_neg]; rotate_left; first | assumption | decide))) <;> (try rfl)
              have e1 : m_ocL Z i0 (xi Z 503 (xn Z 518 i0)) i v (n + 1) = m_ocL Z i0 (xi Z 503 (xn Z 518 i0)) (i + 1) v n := congrArg (fun q => m_ocL Z i0 (xi Z 503 (xn Z 518 i0)) (i + 1) q n) e2
              rw [e1]; exact hl
            · simp only [ne_eq, lg_cmp_eq, lg_cmp_le, lg_cmp_lt, lg_cmp_ge, lg_cmp_gt] at c133
              refine lv_lload hx hb d_Mod_outcome_136 (lv_at hl 0 rfl) ?_
              refine lv_goto (tgt := 143) hx hb d_Mod_outcome_138 (by decide) ?_
              refine lv_lstore (lv' := [(4, .long (m_taken Z i0 i)), (7, .long (m_taken Z i0 i)), (6, .int (nI i)), (3, .int (nI (xn Z 519 i0))), (2, .int (xi Z 503 (xn Z 518 i0))), (0, .ref (ad 10 0)), (1, .int (nI i0))]) hx hb d_Mod_outcome_143 hl (by decide) rfl (fun ls hl => ?_)
              refine lv_iinc (v := (nI (i + 1))) (lv' := [(6, .int (nI (i + 1))), (4, .long (m_taken Z i0 i)), (7, .long (m_taken Z i0 i)), (3, .int (nI (xn Z 519 i0))), (2, .int (xi Z 503 (xn Z 518 i0))), (0, .ref (ad 10 0)), (1, .int (nI i0))]) hx hb d_Mod_outcome_145 hl (k := 2) rfl (by rw [show Int32.ofInt 1 = nI 1 from by decide]; exact nI_add _ _) (by decide) rfl (fun ls hl => ?_)
              refine lv_goto (tgt := 59) hx hb d_Mod_outcome_148 (by decide) ?_
              refine ih (i + 1) _ ls H locs (by omega) (by omega) (by omega) hd (lv_sub hl [0, 1, 3, 4, 5, 6] rfl) (fun ls H locs q hd hl => kk ls H locs q hd ?_)
              have e2 : m_ocS Z i0 (xi Z 503 (xn Z 518 i0)) v i = (m_taken Z i0 i) := by unfold m_ocS; (repeat (first | (rw [if_pos]; rotate_left; first | assumption | decide) | (rw [if_neg]; rotate_left; first | assumption | decide))) <;> (try rfl)
              have e1 : m_ocL Z i0 (xi Z 503 (xn Z 518 i0)) i v (n + 1) = m_ocL Z i0 (xi Z 503 (xn Z 518 i0)) (i + 1) (m_taken Z i0 i) n := congrArg (fun q => m_ocL Z i0 (xi Z 503 (xn Z 518 i0)) (i + 1) q n) e2
              rw [e1]; exact hl
        · refine lv_lload hx hb d_Mod_outcome_98 (lv_at hl 0 rfl) ?_
          refine lv_ldc2 (v := (-1)) hx hb hC.2.2.2.1 (hC.2.2.2.2.1 _ q_848) d_Mod_outcome_100 ?_
          refine W.lcmp hx hb d_Mod_outcome_103 ?_
          refine lv_if_ne (tgt := 113) hx hb d_Mod_outcome_104 (by decide) (fun c104 => ?_) (fun c104 => ?_)
          · simp only [ne_eq, lg_cmp_eq, lg_cmp_le, lg_cmp_lt, lg_cmp_ge, lg_cmp_gt] at c104
            refine lv_lload hx hb d_Mod_outcome_113 (lv_at hl 2 rfl) ?_
            refine lv_lload hx hb d_Mod_outcome_115 (lv_at hl 0 rfl) ?_
            refine lv_ldiv hx hb d_Mod_outcome_117 (hz c95 i hi1 (by omega)) ?_
            refine lv_lstore (lv' := [(4, .long (v / (m_taken Z i0 i))), (7, .long (m_taken Z i0 i)), (6, .int (nI i)), (3, .int (nI (xn Z 519 i0))), (2, .int (xi Z 503 (xn Z 518 i0))), (0, .ref (ad 10 0)), (1, .int (nI i0))]) hx hb d_Mod_outcome_118 hl (by decide) rfl (fun ls hl => ?_)
            refine lv_goto (tgt := 145) hx hb d_Mod_outcome_120 (by decide) ?_
            refine lv_iinc (v := (nI (i + 1))) (lv' := [(6, .int (nI (i + 1))), (4, .long (v / (m_taken Z i0 i))), (7, .long (m_taken Z i0 i)), (3, .int (nI (xn Z 519 i0))), (2, .int (xi Z 503 (xn Z 518 i0))), (0, .ref (ad 10 0)), (1, .int (nI i0))]) hx hb d_Mod_outcome_145 hl (k := 2) rfl (by rw [show Int32.ofInt 1 = nI 1 from by decide]; exact nI_add _ _) (by decide) rfl (fun ls hl => ?_)
            refine lv_goto (tgt := 59) hx hb d_Mod_outcome_148 (by decide) ?_
            refine ih (i + 1) _ ls H locs (by omega) (by omega) (by omega) hd (lv_sub hl [0, 1, 3, 4, 5, 6] rfl) (fun ls H locs q hd hl => kk ls H locs q hd ?_)
            have e2 : m_ocS Z i0 (xi Z 503 (xn Z 518 i0)) v i = (v / (m_taken Z i0 i)) := by unfold m_ocS; (repeat (first | (rw [if_pos]; rotate_left; first | assumption | decide) | (rw [if_neg]; rotate_left; first | assumption | decide))) <;> (try rfl)
            have e1 : m_ocL Z i0 (xi Z 503 (xn Z 518 i0)) i v (n + 1) = m_ocL Z i0 (xi Z 503 (xn Z 518 i0)) (i + 1) (v / (m_taken Z i0 i)) n := congrArg (fun q => m_ocL Z i0 (xi Z 503 (xn Z 518 i0)) (i + 1) q n) e2
            rw [e1]; exact hl
          · simp only [ne_eq, lg_cmp_eq, lg_cmp_le, lg_cmp_lt, lg_cmp_ge, lg_cmp_gt] at c104
            refine lv_lload hx hb d_Mod_outcome_107 (lv_at hl 2 rfl) ?_
            refine lv_lneg hx hb d_Mod_outcome_109 ?_
            refine lv_goto (tgt := 118) hx hb d_Mod_outcome_110 (by decide) ?_
            refine lv_lstore (lv' := [(4, .long (-v)), (7, .long (m_taken Z i0 i)), (6, .int (nI i)), (3, .int (nI (xn Z 519 i0))), (2, .int (xi Z 503 (xn Z 518 i0))), (0, .ref (ad 10 0)), (1, .int (nI i0))]) hx hb d_Mod_outcome_118 hl (by decide) rfl (fun ls hl => ?_)
            refine lv_goto (tgt := 145) hx hb d_Mod_outcome_120 (by decide) ?_
            refine lv_iinc (v := (nI (i + 1))) (lv' := [(6, .int (nI (i + 1))), (4, .long (-v)), (7, .long (m_taken Z i0 i)), (3, .int (nI (xn Z 519 i0))), (2, .int (xi Z 503 (xn Z 518 i0))), (0, .ref (ad 10 0)), (1, .int (nI i0))]) hx hb d_Mod_outcome_145 hl (k := 2) rfl (by rw [show Int32.ofInt 1 = nI 1 from by decide]; exact nI_add _ _) (by decide) rfl (fun ls hl => ?_)
            refine lv_goto (tgt := 59) hx hb d_Mod_outcome_148 (by decide) ?_
            refine ih (i + 1) _ ls H locs (by omega) (by omega) (by omega) hd (lv_sub hl [0, 1, 3, 4, 5, 6] rfl) (fun ls H locs q hd hl => kk ls H locs q hd ?_)
            have e2 : m_ocS Z i0 (xi Z 503 (xn Z 518 i0)) v i = (-v) := by unfold m_ocS; (repeat (first | (rw [if_pos]; rotate_left; first | assumption | decide) | (rw [if_neg]; rotate_left; first | assumption | decide))) <;> (try rfl)
            have e1 : m_ocL Z i0 (xi Z 503 (xn Z 518 i0)) i v (n + 1) = m_ocL Z i0 (xi Z 503 (xn Z 518 i0)) (i + 1) (-v) n := congrArg (fun q => m_ocL Z i0 (xi Z 503 (xn Z 518 i0)) (i + 1) q n) e2
            rw [e1]; exact hl
      · refine lv_lload hx hb d_Mod_outcome_83 (lv_at hl 2 rfl) ?_
        refine lv_lload hx hb d_Mod_outcome_85 (lv_at hl 0 rfl) ?_
        refine lv_ladd hx hb d_Mod_outcome_87 ?_
        refine lv_lstore (lv' := [(4, .long (v + (m_taken Z i0 i))), (7, .long (m_taken Z i0 i)), (6, .int (nI i)), (3, .int (nI (xn Z 519 i0))), (2, .int (xi Z 503 (xn Z 518 i0))), (0, .ref (ad 10 0)), (1, .int (nI i0))]) hx hb d_Mod_outcome_88 hl (by decide) rfl (fun ls hl => ?_)
        refine lv_goto (tgt := 145) hx hb d_Mod_outcome_90 (by decide) ?_
        refine lv_iinc (v := (nI (i + 1))) (lv' := [(6, .int (nI (i + 1))), (4, .long (v + (m_taken Z i0 i))), (7, .long (m_taken Z i0 i)), (3, .int (nI (xn Z 519 i0))), (2, .int (xi Z 503 (xn Z 518 i0))), (0, .ref (ad 10 0)), (1, .int (nI i0))]) hx hb d_Mod_outcome_145 hl (k := 2) rfl (by rw [show Int32.ofInt 1 = nI 1 from by decide]; exact nI_add _ _) (by decide) rfl (fun ls hl => ?_)
        refine lv_goto (tgt := 59) hx hb d_Mod_outcome_148 (by decide) ?_
        refine ih (i + 1) _ ls H locs (by omega) (by omega) (by omega) hd (lv_sub hl [0, 1, 3, 4, 5, 6] rfl) (fun ls H locs q hd hl => kk ls H locs q hd ?_)
        have e2 : m_ocS Z i0 (xi Z 503 (xn Z 518 i0)) v i = (v + (m_taken Z i0 i)) := by unfold m_ocS; (repeat (first | (rw [if_pos]; rotate_left; first | assumption | decide) | (rw [if_neg]; rotate_left; first | assumption | decide))) <;> (try rfl)
        have e1 : m_ocL Z i0 (xi Z 503 (xn Z 518 i0)) i v (n + 1) = m_ocL Z i0 (xi Z 503 (xn Z 518 i0)) (i + 1) (v + (m_taken Z i0 i)) n := congrArg (fun q => m_ocL Z i0 (xi Z 503 (xn Z 518 i0)) (i + 1) q n) e2
        rw [e1]; exact hl
set_option maxHeartbeats 4000000 in
theorem oc_56 {p : Program} {l : Launch} {e : Env} {s : State} {m : MethodId} {args : Array Value} {below : List Frame} {meth : Method} {c : Code} {G : Gt} {ad : Nat → Nat → Nat} {ow : Nat → Nat × Nat} {Z : Zt} {H : Heap} {locs : List Loc} {ls : Array Slot} (hm : ML Z) (hI : MI Z) (i0 : Nat) (hi0 : i0 < 200) (hz : (xi Z 503 (xn Z 518 i0)) = 3 → ∀ j, 1 ≤ j → j < xn Z 519 i0 → ¬ m_taken Z i0 j = 0) (v r : Int64) (hv : v = m_oc0 Z i0) (hr0 : m_outcome Z i0 = r) (hr : meth.sig.returnType = some .long) (hlk : meth.locks = false) (hd : Dy G ad ow Z s H locs) (hl : lv_has ls 9 [(4, .long v), (3, .int (nI (xn Z 519 i0))), (2, .int (xi Z 503 (xn Z 518 i0))), (0, .ref (ad 10 0)), (1, .int (nI i0))]) (hC : Cx G p c m s args "KeyGraphModel" b_Mod_outcome 9) : W p l e ({ frames := 2, cells := 0, slots := 0, locals := 44 } : Room) s m args below meth c H locs 0 0 (MQ below (Qd G ad ow Z (some (.long r))) args s 0 0 (zA G)) (F0 m 56 ls []) := by
  have hx := hC.1
  have hb := hC.2.1
  have h3 := hI.2.2.2.2.2.2.2.1 i0
  refine lv_iconst (v := 1) hx hb d_Mod_outcome_56 (by decide) ?_
  refine lv_istore (lv' := [(6, .int 1), (4, .long v), (3, .int (nI (xn Z 519 i0))), (2, .int (xi Z 503 (xn Z 518 i0))), (0, .ref (ad 10 0)), (1, .int (nI i0))]) hx hb d_Mod_outcome_57 hl (by decide) rfl (fun ls hl => ?_)
  refine lp_Mod_outcome hm hI i0 hi0 hz hC (xn Z 519 i0 - 1) 1 v ls H locs (by omega) (by omega) (by omega) hd (lv_sub hl [0, 1, 2, 3, 4, 5] rfl) (fun ls H locs q hd hl => ?_)
  refine lv_iload_n hx hb d_Mod_outcome_151 rfl (lv_at hl 3 rfl) ?_
  refine lv_iconst (v := 4) hx hb d_Mod_outcome_152 (by decide) ?_
  refine lv_icmp_ne (tgt := 163) hx hb d_Mod_outcome_153 (by decide) (fun c153 => ?_) (fun c153 => ?_)
  · refine lv_lload hx hb d_Mod_outcome_163 (lv_at hl 1 rfl) ?_
    exact zfl hC hd hr hlk d_Mod_outcome_165 (by rw [← hr0, hv]; unfold m_outcome m_oc1; (repeat (first | (rw [if_pos]; rotate_left; first | assumption | decide) | (rw [if_neg]; rotate_left; first | assumption | decide))) <;> (try rfl)) rfl
  · refine lv_lload hx hb d_Mod_outcome_156 (lv_at hl 1 rfl) ?_
    refine lv_lconst (v := 1) hx hb d_Mod_outcome_158 (by decide) ?_
    refine lv_land hx hb d_Mod_outcome_159 ?_
    refine lv_goto (tgt := 165) hx hb d_Mod_outcome_160 (by decide) ?_
    exact zfl hC hd hr hlk d_Mod_outcome_165 (by rw [← hr0, hv]; unfold m_outcome m_oc1; (repeat (first | (rw [if_pos]; rotate_left; first | assumption | decide) | (rw [if_neg]; rotate_left; first | assumption | decide))) <;> (try rfl)) rfl
set_option maxHeartbeats 4000000 in
theorem c_Mod_outcome (l : Launch) (G : Gt) (ad : Nat → Nat → Nat) (ow : Nat → Nat × Nat) (Z : Zt) (hm : ML Z) (hI : MI Z) (i0 : Nat) (hi0 : i0 < 200) (hz : (xi Z 503 (xn Z 518 i0)) = 3 → ∀ j, 1 ≤ j → j < xn Z 519 i0 → ¬ m_taken Z i0 j = 0) (r : Int64) (hr0 : m_outcome Z i0 = r) : Met l y_Mod_outcome w_Mod_outcome ({ frames := 2, cells := 0, slots := 0, locals := 44 }) (zPc G ad ow Z [.ref (ad 10 0), .int (nI i0)]) (Qd G ad ow Z (some (.long r))) 0 0 (zA G) := by
  refine zopen (cc := b_Mod_outcome) (maxL := 9) (ret := (some FieldType.long)) (by decide) rfl (Nat.le_of_ble_eq_true rfl) ?_
  intro p e s m below meth c ls hC hr hlk hnm hd hl
  have hC : Cx G p c m s _ "KeyGraphModel" b_Mod_outcome 9 := hC
  have hl : lv_has ls 9 [(0, .ref (ad 10 0)), (1, .int (nI i0))] := hl
  have hx := hC.1
  have hb := hC.2.1
  have h1 := hI.2.2.2.2.2.2.1 i0
  have h3 := hI.2.2.2.2.2.2.2.1 i0
  refine lv_aload_n hx hb d_Mod_outcome_0 rfl (lv_at hl 0 rfl) ?_
  refine zget hC hd (e_mod hm.1) rfl i_Mod 3 (by decide) q_656 (Or.inl rfl) (v := .ref (ad 11 3)) rfl d_Mod_outcome_1 ?_
  refine lv_aload_n hx hb d_Mod_outcome_4 rfl (lv_at hl 0 rfl) ?_
  refine zget hC hd (e_mod hm.1) rfl i_Mod 18 (by decide) q_671 (Or.inl rfl) (v := .ref (ad 11 18)) rfl d_Mod_outcome_5 ?_
  refine lv_iload_n hx hb d_Mod_outcome_8 rfl (lv_at hl 1 rfl) ?_
  refine ziaN (k := i0) (f := xn Z 518) hC hd (e_m18 hm.2) (by omega) (by decide) d_Mod_outcome_9 ?_
  refine ziaI (k := xn Z 518 i0) (f := xi Z 503) hC hd (e_m3 hm.2) (by omega) (by decide) d_Mod_outcome_10 ?_
  refine lv_istore_n (lv' := [(2, .int (xi Z 503 (xn Z 518 i0))), (0, .ref (ad 10 0)), (1, .int (nI i0))]) hx hb d_Mod_outcome_11 rfl hl (by decide) rfl (fun ls hl => ?_)
  refine lv_aload_n hx hb d_Mod_outcome_12 rfl (lv_at hl 1 rfl) ?_
  refine zget hC hd (e_mod hm.1) rfl i_Mod 19 (by decide) q_672 (Or.inl rfl) (v := .ref (ad 11 19)) rfl d_Mod_outcome_13 ?_
  refine lv_iload_n hx hb d_Mod_outcome_16 rfl (lv_at hl 2 rfl) ?_
  refine ziaN (k := i0) (f := xn Z 519) hC hd (e_m19 hm.2) (by omega) (by decide) d_Mod_outcome_17 ?_
  refine lv_istore_n (lv' := [(3, .int (nI (xn Z 519 i0))), (2, .int (xi Z 503 (xn Z 518 i0))), (0, .ref (ad 10 0)), (1, .int (nI i0))]) hx hb d_Mod_outcome_18 rfl hl (by decide) rfl (fun ls hl => ?_)
  refine lv_iload_n hx hb d_Mod_outcome_19 rfl (lv_at hl 0 rfl) ?_
  refine zi_ne (x := xn Z 519 i0) (tgt := 27) (by omega) hx hb d_Mod_outcome_20 (by decide) (fun c20 => ?_) (fun c20 => ?_)
  · have c20' := zi_p c20
    refine lv_iload_n hx hb d_Mod_outcome_27 rfl (lv_at hl 1 rfl) ?_
    refine lv_iconst (v := 1) hx hb d_Mod_outcome_28 (by decide) ?_
    refine lv_icmp_eq (tgt := 37) hx hb d_Mod_outcome_29 (by decide) (fun c29 => ?_) (fun c29 => ?_)
    · refine lv_aload_n hx hb d_Mod_outcome_37 rfl (lv_at hl 2 rfl) ?_
      refine lv_iload_n hx hb d_Mod_outcome_38 rfl (lv_at hl 3 rfl) ?_
      refine lv_iload_n hx hb d_Mod_outcome_39 rfl (lv_at hl 0 rfl) ?_
      refine lv_iconst (v := 1) hx hb d_Mod_outcome_40 (by decide) ?_
      refine zsubN (x := xn Z 519 i0) (y := 1) (by omega) hx hb d_Mod_outcome_41 ?_
      refine zb_l (r := (m_taken Z i0 ((xn Z 519 i0) - 1))) hd (zrunV (n := 2) (rest := []) hC hd (e_mod hm.1) rfl (c_Mod_taken l G ad ow Z hm hI i0 ((xn Z 519 i0) - 1) (by omega) (by omega)) q_833 q_835 qp_32 q_6 q_836 rfl rfl rfl (by decide +kernel) ⟨by decide, by decide⟩ rfl hl.1 (Nat.le_of_ble_eq_true rfl) d_Mod_outcome_42 ⟨by decide, by decide⟩) (fun H locs hd => ?_)
      refine lv_goto (tgt := 54) hx hb d_Mod_outcome_45 (by decide) ?_
      refine lv_lstore (lv' := [(4, .long (m_taken Z i0 ((xn Z 519 i0) - 1))), (3, .int (nI (xn Z 519 i0))), (2, .int (xi Z 503 (xn Z 518 i0))), (0, .ref (ad 10 0)), (1, .int (nI i0))]) hx hb d_Mod_outcome_54 hl (by decide) rfl (fun ls hl => ?_)
      exact oc_56 hm hI i0 hi0 hz (m_taken Z i0 ((xn Z 519 i0) - 1)) r (by unfold m_oc0; (repeat (first | (rw [if_pos]; rotate_left; first | assumption | decide) | (rw [if_neg]; rotate_left; first | assumption | decide))) <;> (try rfl)) hr0 hr hlk hd (lv_sub hl [0, 1, 2, 3, 4] rfl) hC
    · refine lv_iload_n hx hb d_Mod_outcome_32 rfl (lv_at hl 1 rfl) ?_
      refine lv_iconst (v := 2) hx hb d_Mod_outcome_33 (by decide) ?_
      refine lv_icmp_ne (tgt := 48) hx hb d_Mod_outcome_34 (by decide) (fun c34 => ?_) (fun c34 => ?_)
      · refine lv_aload_n hx hb d_Mod_outcome_48 rfl (lv_at hl 2 rfl) ?_
        refine lv_iload_n hx hb d_Mod_outcome_49 rfl (lv_at hl 3 rfl) ?_
        refine lv_iconst (v := 0) hx hb d_Mod_outcome_50 (by decide) ?_
        refine zb_l (r := (m_taken Z i0 0)) hd (zrunV (n := 2) (rest := []) hC hd (e_mod hm.1) rfl (c_Mod_taken l G ad ow Z hm hI i0 0 (by omega) (by omega)) q_833 q_835 qp_32 q_6 q_836 rfl rfl rfl (by decide +kernel) ⟨by decide, by decide⟩ rfl hl.1 (Nat.le_of_ble_eq_true rfl) d_Mod_outcome_51 ⟨by decide, by decide⟩) (fun H locs hd => ?_)
        refine lv_lstore (lv' := [(4, .long (m_taken Z i0 0)), (3, .int (nI (xn Z 519 i0))), (2, .int (xi Z 503 (xn Z 518 i0))), (0, .ref (ad 10 0)), (1, .int (nI i0))]) hx hb d_Mod_outcome_54 hl (by decide) rfl (fun ls hl => ?_)
        exact oc_56 hm hI i0 hi0 hz (m_taken Z i0 0) r (by unfold m_oc0; (repeat (first | (rw [if_pos]; rotate_left; first | assumption | decide) | (rw [if_neg]; rotate_left; first | assumption | decide))) <;> (try rfl)) hr0 hr hlk hd (lv_sub hl [0, 1, 2, 3, 4] rfl) hC
      · refine lv_aload_n hx hb d_Mod_outcome_37 rfl (lv_at hl 2 rfl) ?_
        refine lv_iload_n hx hb d_Mod_outcome_38 rfl (lv_at hl 3 rfl) ?_
        refine lv_iload_n hx hb d_Mod_outcome_39 rfl (lv_at hl 0 rfl) ?_
        refine lv_iconst (v := 1) hx hb d_Mod_outcome_40 (by decide) ?_
        refine zsubN (x := xn Z 519 i0) (y := 1) (by omega) hx hb d_Mod_outcome_41 ?_
        refine zb_l (r := (m_taken Z i0 ((xn Z 519 i0) - 1))) hd (zrunV (n := 2) (rest := []) hC hd (e_mod hm.1) rfl (c_Mod_taken l G ad ow Z hm hI i0 ((xn Z 519 i0) - 1) (by omega) (by omega)) q_833 q_835 qp_32 q_6 q_836 rfl rfl rfl (by decide +kernel) ⟨by decide, by decide⟩ rfl hl.1 (Nat.le_of_ble_eq_true rfl) d_Mod_outcome_42 ⟨by decide, by decide⟩) (fun H locs hd => ?_)
        refine lv_goto (tgt := 54) hx hb d_Mod_outcome_45 (by decide) ?_
        refine lv_lstore (lv' := [(4, .long (m_taken Z i0 ((xn Z 519 i0) - 1))), (3, .int (nI (xn Z 519 i0))), (2, .int (xi Z 503 (xn Z 518 i0))), (0, .ref (ad 10 0)), (1, .int (nI i0))]) hx hb d_Mod_outcome_54 hl (by decide) rfl (fun ls hl => ?_)
        exact oc_56 hm hI i0 hi0 hz (m_taken Z i0 ((xn Z 519 i0) - 1)) r (by unfold m_oc0; (repeat (first | (rw [if_pos]; rotate_left; first | assumption | decide) | (rw [if_neg]; rotate_left; first | assumption | decide))) <;> (try rfl)) hr0 hr hlk hd (lv_sub hl [0, 1, 2, 3, 4] rfl) hC
  · have c20' := zi_z c20
    refine lv_lconst (v := 0) hx hb d_Mod_outcome_23 (by decide) ?_
    refine lv_goto (tgt := 54) hx hb d_Mod_outcome_24 (by decide) ?_
    refine lv_lstore (lv' := [(4, .long 0), (3, .int (nI (xn Z 519 i0))), (2, .int (xi Z 503 (xn Z 518 i0))), (0, .ref (ad 10 0)), (1, .int (nI i0))]) hx hb d_Mod_outcome_54 hl (by decide) rfl (fun ls hl => ?_)
    exact oc_56 hm hI i0 hi0 hz 0 r (by unfold m_oc0; (repeat (first | (rw [if_pos]; rotate_left; first | assumption | decide) | (rw [if_neg]; rotate_left; first | assumption | decide))) <;> (try rfl)) hr0 hr hlk hd (lv_sub hl [0, 1, 2, 3, 4] rfl) hC
