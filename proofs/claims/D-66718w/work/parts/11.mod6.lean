theorem m_pf_congr {Z Z' : Zt} (h1 : ∀ i, xn Z' 518 i = xn Z 518 i) (k p : Nat) : ∀ (n i : Nat) (g : Int32), m_pf Z' k p i g n = m_pf Z k p i g n
  | 0, _, _ => rfl
  | n + 1, i, g => by unfold m_pf; rw [h1]; exact m_pf_congr h1 k p n _ _
theorem m_po_congr {Z Z' : Zt} (h1 : ∀ i, xn Z' 518 i = xn Z 518 i) (h2 : ∀ i, xn Z' 517 i = xn Z 517 i) (k : Nat) : ∀ (n p : Nat) (g : Int32), m_po Z' k p g n = m_po Z k p g n
  | 0, _, _ => rfl
  | n + 1, p, g => by unfold m_po; rw [h2, m_pf_congr h1]; exact m_po_congr h1 h2 k n _ _
theorem m_pileOf_congr {Z Z' : Zt} (h1 : ∀ i, xn Z' 518 i = xn Z 518 i) (h2 : ∀ i, xn Z' 517 i = xn Z 517 i) (k : Nat) : m_pileOf Z' k = m_pileOf Z k := m_po_congr h1 h2 k 5 0 (-1)
theorem m_pileOf_m0 (Z : Zt) (k : Nat) : m_pileOf (si Z 20 0 0) k = m_pileOf Z k := m_pileOf_congr (Z := Z) (Z' := si Z 20 0 0) (fun _ => rfl) (fun _ => rfl) k
/-- the counts of cells are not touched -/
def CN (Z Z' : Zt) : Prop := ∀ o, xn Z' 0 o = xn Z 0 o
theorem CN.ML {Z Z' : Zt} (h : CN Z Z') (hm : ML Z) : ML Z' := ⟨by rw [h]; exact hm.1, by rw [h]; exact hm.2⟩
theorem m_await_CN (Z : Zt) (u k : Nat) : CN Z (m_await Z u k).1 := by
  intro q; unfold m_await; split <;> rfl
theorem m_end_CN (Z : Zt) (u : Nat) (w : Int32) (v : Int64) : CN Z (m_end Z u w v) := by
  intro q
  show xn (m_copy _ _ _ _ _) 0 q = _
  rw [m_copy_xn _ _ _ _ _ _ _ (by decide)]
  rfl
theorem m_check_CN (Z : Zt) (u i : Nat) : CN Z (m_check Z u i).1 := by
  intro q
  unfold m_check
  split
  · rfl
  · split
    · exact m_await_CN Z u _ q
    · split <;> rfl
theorem m_go_CN (Z : Zt) (u : Nat) : CN Z (m_go Z u).1 := by
  intro q
  unfold m_go m_go1
  split
  · rfl
  · split
    · exact m_check_CN Z u _ q
    · split
      · exact m_end_CN Z u _ _ q
      · split
        · exact m_end_CN Z u _ _ q
        · unfold m_goW
          split
          · exact m_await_CN Z u _ q
          · split
            · rfl
            · exact m_end_CN _ u _ _ q
/-- what a step of the model may be asked for -/
def GoPre (Z : Zt) (u : Nat) : Prop := MI Z ∧ GoOk Z u ∧ (¬ xn Z 519 (40 * u + xn Z 517 u - 1) = xn Z 510 (xn Z 518 (40 * u + xn Z 517 u - 1)) → xn Z 519 (40 * u + xn Z 517 u - 1) < 8)
def m_runs : Nat → Zt → Int32 → Zt → Int32 → Prop
  | 0, _, _, _, _ => False
  | n + 1, Z, g, Z', g' => if g = 3 then (Z' = Z ∧ g' = g) else if xn Z 517 4 = 0 then (Z' = Z ∧ g' = g) else GoPre Z 4 ∧ m_runs n (m_go Z 4).1 (m_go Z 4).2 Z' g'
def m_runR (Z : Zt) (g : Int32) (j : Nat) : Int32 := if g = 3 then -2 else xi Z 506 j

set_option maxHeartbeats 4000000 in
theorem lp_Mod_run {p : Program} {l : Launch} {e : Env} {s : State} {m : MethodId} {args : Array Value} {below : List Frame} {meth : Method} {c : Code} {Q : State → Prop} {G : Gt} {ad : Nat → Nat → Nat} {ow : Nat → Nat × Nat} (k : Nat) (Z9 : Zt) (g9 : Int32) (hC : Cx G p c m s args "KeyGraphModel" b_Mod_run 3) : ∀ (n : Nat) (Z : Zt) (g : Int32) (ls : Array Slot) (H : Heap) (locs : List Loc), ML Z → m_runs n Z g Z9 g9 → Dy G ad ow Z s H locs → lv_has ls 3 [(2, .int g), (0, .ref (ad 10 0)), (1, .int (nI k))] → (∀ (ls : Array Slot) (H : Heap) (locs : List Loc), ML Z9 → Dy G ad ow Z9 s H locs → lv_has ls 3 [(2, .int g9), (0, .ref (ad 10 0)), (1, .int (nI k))] → W p l e ({ frames := 4, cells := 0, slots := 0, locals := 96 } : Room) s m args below meth c H locs 0 0 Q (F0 m 73 ls [])) → W p l e ({ frames := 4, cells := 0, slots := 0, locals := 96 } : Room) s m args below meth c H locs 0 0 Q (F0 m 50 ls []) := by
  have hx := hC.1
  have hb := hC.2.1
  intro n
  induction n with
  | zero => exact fun Z g ls H locs hm hrun => hrun.elim
  | succ n ih =>
    intro Z g ls H locs hm hrun hd hl kk
    unfold m_runs at hrun
    have hhb : xn Z 517 4 ≤ 2147483647 ∨ g = 3 := by
      by_cases h3 : g = 3
      · exact Or.inr h3
      · rw [if_neg h3] at hrun
        by_cases h4 : xn Z 517 4 = 0
        · exact Or.inl (by omega)
        · rw [if_neg h4] at hrun; have := hrun.1.1.2.2.2.2.2.1 4; exact Or.inl (by omega)
    refine lv_iload_n hx hb d_Mod_run_50 rfl (lv_at hl 0 rfl) ?_
    refine lv_iconst (v := 3) hx hb d_Mod_run_51 (by decide) ?_
    refine lv_icmp_eq (tgt := 73) hx hb d_Mod_run_52 (by decide) (fun c52 => ?_) (fun c52 => ?_)
    · rw [if_pos c52] at hrun
      obtain ⟨rfl, rfl⟩ := hrun
      exact kk ls H locs hm hd hl
    · refine lv_aload_n hx hb d_Mod_run_55 rfl (lv_at hl 1 rfl) ?_
      refine zget hC hd (e_mod hm.1) rfl i_Mod 17 (by decide) q_670 (Or.inl rfl) (v := .ref (ad 11 17)) rfl d_Mod_run_56 ?_
      refine lv_iconst (v := 4) hx hb d_Mod_run_59 (by decide) ?_
      refine ziaN (k := 4) (f := xn Z 517) hC hd (e_m17 hm.2) (by omega) (by decide) d_Mod_run_60 ?_
      refine zi_le (x := xn Z 517 4) (tgt := 73) (hhb.resolve_right c52) hx hb d_Mod_run_61 (by decide) (fun c61 => ?_) (fun c61 => ?_)
      · have c61' := zi_z c61
        rw [if_neg c52, if_pos c61] at hrun
        obtain ⟨rfl, rfl⟩ := hrun
        exact kk ls H locs hm hd hl
      · have c61' := zi_p c61
        rw [if_neg c52, if_neg c61'] at hrun
        obtain ⟨hpre, hrun⟩ := hrun
        refine lv_aload_n hx hb d_Mod_run_64 rfl (lv_at hl 1 rfl) ?_
        refine lv_iconst (v := 4) hx hb d_Mod_run_65 (by decide) ?_
        refine zb_i (r := ((m_go Z 4).2)) hd (zrunV (n := 1) (rest := []) hC hd (e_mod hm.1) rfl (c_Mod_go l G ad ow Z hm hpre.1 4 (by omega) hpre.2.1 hpre.2.2) q_817 q_819 qp_28 q_6 q_820 rfl rfl rfl (by decide +kernel) ⟨by decide, by decide⟩ rfl hl.1 (Nat.le_of_ble_eq_true rfl) d_Mod_run_66 ⟨by decide, by decide⟩) (fun H locs hd => ?_)
        refine lv_istore_n (lv' := [(2, .int ((m_go Z 4).2)), (0, .ref (ad 10 0)), (1, .int (nI k))]) hx hb d_Mod_run_69 rfl hl (by decide) rfl (fun ls hl => ?_)
        refine lv_goto (tgt := 50) hx hb d_Mod_run_70 (by decide) ?_
        exact ih _ _ ls H locs ((m_go_CN Z 4).ML hm) hrun hd (lv_sub hl [0, 1, 2] rfl) kk
set_option maxHeartbeats 4000000 in
theorem c_Mod_run_no (l : Launch) (G : Gt) (ad : Nat → Nat → Nat) (ow : Nat → Nat × Nat) (Z : Zt) (hm : ML Z) (k : Int32) (h0 : m_isKey Z k = 0) : Met l y_Mod_run w_Mod_run ({ frames := 4, cells := 0, slots := 0, locals := 96 }) (zPc G ad ow Z [.ref (ad 10 0), .int k]) (Qd G ad ow (m0 Z) (some (.int (-1)))) 0 0 (zA G) := by
  refine zopen (cc := b_Mod_run) (maxL := 3) (ret := (some FieldType.int)) (by decide) rfl (Nat.le_of_ble_eq_true rfl) ?_
  intro p e s m below meth c ls hC hr hlk hnm hd hl
  have hC : Cx G p c m s _ "KeyGraphModel" b_Mod_run 3 := hC
  have hl : lv_has ls 3 [(0, .ref (ad 10 0)), (1, .int k)] := hl
  have hx := hC.1
  have hb := hC.2.1
  refine lv_aload_n hx hb d_Mod_run_0 rfl (lv_at hl 0 rfl) ?_
  refine lv_iconst (v := 0) hx hb d_Mod_run_1 (by decide) ?_
  refine zput (Z' := (si Z 20 0 0)) hC hd (e_mod hm.1) rfl i_Mod t_Mod t_Mod_ok n_Mod 0 (by decide) q_653 (Or.inl rfl) rfl rfl rfl (Nat.le_of_ble_eq_true rfl) (u_mcode hm.1) d_Mod_run_2 (fun H locs hd => ?_)
  refine lv_aload_n hx hb d_Mod_run_5 rfl (lv_at hl 0 rfl) ?_
  refine lv_iload_n hx hb d_Mod_run_6 rfl (lv_at hl 1 rfl) ?_
  refine zb_i (r := 0) hd (zrunV (n := 1) (rest := []) hC hd (e_mod hm.1) rfl (c_Mod_isKey_r l G ad ow (si Z 20 0 0) hm k 0 h0) q_750 q_752 qp_18 q_6 q_753 rfl rfl rfl (by decide +kernel) ⟨by decide, by decide⟩ rfl hl.1 (Nat.le_of_ble_eq_true rfl) d_Mod_run_7 ⟨by decide, by decide⟩) (fun H locs hd => ?_)
  refine lv_if_ne (tgt := 15) hx hb d_Mod_run_10 (by decide) (fun c => absurd c (by decide)) (fun _ => ?_)
  refine lv_iconst (v := (-1)) hx hb d_Mod_run_13 (by decide) ?_
  exact zfi hC hd hr hlk d_Mod_run_14 rfl rfl
set_option maxHeartbeats 4000000 in
theorem c_Mod_run_sure (l : Launch) (G : Gt) (ad : Nat → Nat → Nat) (ow : Nat → Nat × Nat) (Z : Zt) (hm : ML Z) (k : Nat) (hk : k < 40) (h0 : m_isKey Z (nI k) = 1) (h1 : m_isSure Z k = 1) : Met l y_Mod_run w_Mod_run ({ frames := 4, cells := 0, slots := 0, locals := 96 }) (zPc G ad ow Z [.ref (ad 10 0), .int (nI k)]) (Qd G ad ow (m0 Z) (some (.int (xi Z 506 k)))) 0 0 (zA G) := by
  refine zopen (cc := b_Mod_run) (maxL := 3) (ret := (some FieldType.int)) (by decide) rfl (Nat.le_of_ble_eq_true rfl) ?_
  intro p e s m below meth c ls hC hr hlk hnm hd hl
  have hC : Cx G p c m s _ "KeyGraphModel" b_Mod_run 3 := hC
  have hl : lv_has ls 3 [(0, .ref (ad 10 0)), (1, .int (nI k))] := hl
  have hx := hC.1
  have hb := hC.2.1
  refine lv_aload_n hx hb d_Mod_run_0 rfl (lv_at hl 0 rfl) ?_
  refine lv_iconst (v := 0) hx hb d_Mod_run_1 (by decide) ?_
  refine zput (Z' := (si Z 20 0 0)) hC hd (e_mod hm.1) rfl i_Mod t_Mod t_Mod_ok n_Mod 0 (by decide) q_653 (Or.inl rfl) rfl rfl rfl (Nat.le_of_ble_eq_true rfl) (u_mcode hm.1) d_Mod_run_2 (fun H locs hd => ?_)
  refine lv_aload_n hx hb d_Mod_run_5 rfl (lv_at hl 0 rfl) ?_
  refine lv_iload_n hx hb d_Mod_run_6 rfl (lv_at hl 1 rfl) ?_
  refine zb_i (r := 1) hd (zrunV (n := 1) (rest := []) hC hd (e_mod hm.1) rfl (c_Mod_isKey_r l G ad ow (si Z 20 0 0) hm (nI k) 1 h0) q_750 q_752 qp_18 q_6 q_753 rfl rfl rfl (by decide +kernel) ⟨by decide, by decide⟩ rfl hl.1 (Nat.le_of_ble_eq_true rfl) d_Mod_run_7 ⟨by decide, by decide⟩) (fun H locs hd => ?_)
  refine lv_if_ne (tgt := 15) hx hb d_Mod_run_10 (by decide) (fun _ => ?_) (fun c => absurd c (by decide))
  refine lv_aload_n hx hb d_Mod_run_15 rfl (lv_at hl 0 rfl) ?_
  refine lv_iload_n hx hb d_Mod_run_16 rfl (lv_at hl 1 rfl) ?_
  refine zb_i (r := 1) hd (zrunV (n := 1) (rest := []) hC hd (e_mod hm.1) rfl (c_Mod_isSure l G ad ow (si Z 20 0 0) hm k (by omega) 1 h1) q_801 q_803 qp_26 q_6 q_804 rfl rfl rfl (by decide +kernel) ⟨by decide, by decide⟩ rfl hl.1 (Nat.le_of_ble_eq_true rfl) d_Mod_run_17 ⟨by decide, by decide⟩) (fun H locs hd => ?_)
  refine lv_if_eq (tgt := 30) hx hb d_Mod_run_20 (by decide) (fun c => absurd c (by decide)) (fun _ => ?_)
  refine lv_aload_n hx hb d_Mod_run_23 rfl (lv_at hl 0 rfl) ?_
  refine zget hC hd (e_mod hm.1) rfl i_Mod 6 (by decide) q_659 (Or.inl rfl) (v := .ref (ad 11 6)) rfl d_Mod_run_24 ?_
  refine lv_iload_n hx hb d_Mod_run_27 rfl (lv_at hl 1 rfl) ?_
  refine ziaI (k := k) (f := xi Z 506) hC hd (e_m6 hm.2) (by omega) (by decide) d_Mod_run_28 ?_
  exact zfi hC hd hr hlk d_Mod_run_29 rfl rfl
set_option maxHeartbeats 4000000 in
theorem c_Mod_run_on (l : Launch) (G : Gt) (ad : Nat → Nat → Nat) (ow : Nat → Nat × Nat) (Z : Zt) (hm : ML Z) (hI : MI Z) (k : Nat) (hk : k < 40) (h0 : m_isKey Z (nI k) = 1) (h1 : m_isSure Z k = 0) (h2 : ¬ m_pileOf Z k = -1) : Met l y_Mod_run w_Mod_run ({ frames := 4, cells := 0, slots := 0, locals := 96 }) (zPc G ad ow Z [.ref (ad 10 0), .int (nI k)]) (Qd G ad ow (m0 Z) (some (.int (-2)))) 0 0 (zA G) := by
  refine zopen (cc := b_Mod_run) (maxL := 3) (ret := (some FieldType.int)) (by decide) rfl (Nat.le_of_ble_eq_true rfl) ?_
  intro p e s m below meth c ls hC hr hlk hnm hd hl
  have hC : Cx G p c m s _ "KeyGraphModel" b_Mod_run 3 := hC
  have hl : lv_has ls 3 [(0, .ref (ad 10 0)), (1, .int (nI k))] := hl
  have hx := hC.1
  have hb := hC.2.1
  have hpz : m_pileOf (si Z 20 0 0) k = m_pileOf Z k := m_pileOf_m0 Z k
  refine lv_aload_n hx hb d_Mod_run_0 rfl (lv_at hl 0 rfl) ?_
  refine lv_iconst (v := 0) hx hb d_Mod_run_1 (by decide) ?_
  refine zput (Z' := (si Z 20 0 0)) hC hd (e_mod hm.1) rfl i_Mod t_Mod t_Mod_ok n_Mod 0 (by decide) q_653 (Or.inl rfl) rfl rfl rfl (Nat.le_of_ble_eq_true rfl) (u_mcode hm.1) d_Mod_run_2 (fun H locs hd => ?_)
  refine lv_aload_n hx hb d_Mod_run_5 rfl (lv_at hl 0 rfl) ?_
  refine lv_iload_n hx hb d_Mod_run_6 rfl (lv_at hl 1 rfl) ?_
  refine zb_i (r := 1) hd (zrunV (n := 1) (rest := []) hC hd (e_mod hm.1) rfl (c_Mod_isKey_r l G ad ow (si Z 20 0 0) hm (nI k) 1 h0) q_750 q_752 qp_18 q_6 q_753 rfl rfl rfl (by decide +kernel) ⟨by decide, by decide⟩ rfl hl.1 (Nat.le_of_ble_eq_true rfl) d_Mod_run_7 ⟨by decide, by decide⟩) (fun H locs hd => ?_)
  refine lv_if_ne (tgt := 15) hx hb d_Mod_run_10 (by decide) (fun _ => ?_) (fun c => absurd c (by decide))
  refine lv_aload_n hx hb d_Mod_run_15 rfl (lv_at hl 0 rfl) ?_
  refine lv_iload_n hx hb d_Mod_run_16 rfl (lv_at hl 1 rfl) ?_
  refine zb_i (r := 0) hd (zrunV (n := 1) (rest := []) hC hd (e_mod hm.1) rfl (c_Mod_isSure l G ad ow (si Z 20 0 0) hm k (by omega) 0 h1) q_801 q_803 qp_26 q_6 q_804 rfl rfl rfl (by decide +kernel) ⟨by decide, by decide⟩ rfl hl.1 (Nat.le_of_ble_eq_true rfl) d_Mod_run_17 ⟨by decide, by decide⟩) (fun H locs hd => ?_)
  refine lv_if_eq (tgt := 30) hx hb d_Mod_run_20 (by decide) (fun _ => ?_) (fun c => absurd c (by decide))
  refine lv_aload_n hx hb d_Mod_run_30 rfl (lv_at hl 0 rfl) ?_
  refine lv_iload_n hx hb d_Mod_run_31 rfl (lv_at hl 1 rfl) ?_
  refine zb_i (r := (m_pileOf Z k)) hd (zrunV (n := 1) (rest := []) hC hd (e_mod hm.1) rfl (c_Mod_pileOf l G ad ow (si Z 20 0 0) hm (show MI (si Z 20 0 0) from hI) k (by omega) (m_pileOf Z k) hpz) q_797 q_799 qp_25 q_6 q_800 rfl rfl rfl (by decide +kernel) ⟨by decide, by decide⟩ rfl hl.1 (Nat.le_of_ble_eq_true rfl) d_Mod_run_32 ⟨by decide, by decide⟩) (fun H locs hd => ?_)
  refine lv_iconst (v := (-1)) hx hb d_Mod_run_35 (by decide) ?_
  refine lv_icmp_eq (tgt := 42) hx hb d_Mod_run_36 (by decide) (fun c36 => absurd c36 h2) (fun c36 => ?_)
  refine lv_bipush (v := (-2)) hx hb d_Mod_run_39 (by decide) ?_
  exact zfi hC hd hr hlk d_Mod_run_41 rfl rfl
set_option maxHeartbeats 4000000 in
theorem c_Mod_run_go (l : Launch) (G : Gt) (ad : Nat → Nat → Nat) (ow : Nat → Nat × Nat) (Z : Zt) (hm : ML Z) (hI : MI Z) (k : Nat) (hk : k < 40) (h0 : m_isKey Z (nI k) = 1) (h1 : m_isSure Z k = 0) (h2 : m_pileOf Z k = -1) (hh : xn Z 517 4 < 40) (N : Nat) (Z9 : Zt) (g9 : Int32) (hrun : m_runs N (m_lay (m0 Z) 4 k) 1 Z9 g9) : Met l y_Mod_run w_Mod_run ({ frames := 4, cells := 0, slots := 0, locals := 96 }) (zPc G ad ow Z [.ref (ad 10 0), .int (nI k)]) (Qd G ad ow (sn Z9 517 4 0) (some (.int (m_runR Z9 g9 k)))) 0 0 (zA G) := by
  refine zopen (cc := b_Mod_run) (maxL := 3) (ret := (some FieldType.int)) (by decide) rfl (Nat.le_of_ble_eq_true rfl) ?_
  intro p e s m below meth c ls hC hr hlk hnm hd hl
  have hC : Cx G p c m s _ "KeyGraphModel" b_Mod_run 3 := hC
  have hl : lv_has ls 3 [(0, .ref (ad 10 0)), (1, .int (nI k))] := hl
  have hx := hC.1
  have hb := hC.2.1
  refine lv_aload_n hx hb d_Mod_run_0 rfl (lv_at hl 0 rfl) ?_
  refine lv_iconst (v := 0) hx hb d_Mod_run_1 (by decide) ?_
  refine zput (Z' := (si Z 20 0 0)) hC hd (e_mod hm.1) rfl i_Mod t_Mod t_Mod_ok n_Mod 0 (by decide) q_653 (Or.inl rfl) rfl rfl rfl (Nat.le_of_ble_eq_true rfl) (u_mcode hm.1) d_Mod_run_2 (fun H locs hd => ?_)
  refine lv_aload_n hx hb d_Mod_run_5 rfl (lv_at hl 0 rfl) ?_
  refine lv_iload_n hx hb d_Mod_run_6 rfl (lv_at hl 1 rfl) ?_
  refine zb_i (r := 1) hd (zrunV (n := 1) (rest := []) hC hd (e_mod hm.1) rfl (c_Mod_isKey_r l G ad ow (si Z 20 0 0) hm (nI k) 1 h0) q_750 q_752 qp_18 q_6 q_753 rfl rfl rfl (by decide +kernel) ⟨by decide, by decide⟩ rfl hl.1 (Nat.le_of_ble_eq_true rfl) d_Mod_run_7 ⟨by decide, by decide⟩) (fun H locs hd => ?_)
  refine lv_if_ne (tgt := 15) hx hb d_Mod_run_10 (by decide) (fun _ => ?_) (fun c => absurd c (by decide))
  refine lv_aload_n hx hb d_Mod_run_15 rfl (lv_at hl 0 rfl) ?_
  refine lv_iload_n hx hb d_Mod_run_16 rfl (lv_at hl 1 rfl) ?_
  refine zb_i (r := 0) hd (zrunV (n := 1) (rest := []) hC hd (e_mod hm.1) rfl (c_Mod_isSure l G ad ow (si Z 20 0 0) hm k (by omega) 0 h1) q_801 q_803 qp_26 q_6 q_804 rfl rfl rfl (by decide +kernel) ⟨by decide, by decide⟩ rfl hl.1 (Nat.le_of_ble_eq_true rfl) d_Mod_run_17 ⟨by decide, by decide⟩) (fun H locs hd => ?_)
  refine lv_if_eq (tgt := 30) hx hb d_Mod_run_20 (by decide) (fun _ => ?_) (fun c => absurd c (by decide))
  refine lv_aload_n hx hb d_Mod_run_30 rfl (lv_at hl 0 rfl) ?_
  refine lv_iload_n hx hb d_Mod_run_31 rfl (lv_at hl 1 rfl) ?_
  refine zb_i (r := (-1)) hd (zrunV (n := 1) (rest := []) hC hd (e_mod hm.1) rfl (c_Mod_pileOf l G ad ow (si Z 20 0 0) hm (show MI (si Z 20 0 0) from hI) k (by omega) (-1) ((m_pileOf_m0 Z k).trans h2)) q_797 q_799 qp_25 q_6 q_800 rfl rfl rfl (by decide +kernel) ⟨by decide, by decide⟩ rfl hl.1 (Nat.le_of_ble_eq_true rfl) d_Mod_run_32 ⟨by decide, by decide⟩) (fun H locs hd => ?_)
  refine lv_iconst (v := (-1)) hx hb d_Mod_run_35 (by decide) ?_
  refine lv_icmp_eq (tgt := 42) hx hb d_Mod_run_36 (by decide) (fun _ => ?_) (fun c => absurd c (by decide))
  refine lv_aload_n hx hb d_Mod_run_42 rfl (lv_at hl 0 rfl) ?_
  refine lv_iconst (v := 4) hx hb d_Mod_run_43 (by decide) ?_
  refine lv_iload_n hx hb d_Mod_run_44 rfl (lv_at hl 1 rfl) ?_
  refine zb_v hd (zrunV (n := 2) (rest := []) hC hd (e_mod hm.1) rfl (c_Mod_lay l G ad ow (si Z 20 0 0) hm 4 k (by omega) (by omega) (show xn Z 517 4 < 40 by omega)) q_805 q_807 qp_27 q_6 q_808 rfl rfl rfl (by decide +kernel) ⟨by decide, by decide⟩ rfl hl.1 (Nat.le_of_ble_eq_true rfl) d_Mod_run_45 ⟨by decide, by decide⟩) (fun H locs hd => ?_)
  refine lv_iconst (v := 1) hx hb d_Mod_run_48 (by decide) ?_
  refine lv_istore_n (lv' := [(2, .int 1), (0, .ref (ad 10 0)), (1, .int (nI k))]) hx hb d_Mod_run_49 rfl hl (by decide) rfl (fun ls hl => ?_)
  refine lp_Mod_run k Z9 g9 hC N (m_lay (m0 Z) 4 k) 1 ls H locs hm hrun hd (lv_sub hl [0, 1, 2] rfl) (fun ls H locs hm9 hd hl => ?_)
  refine lv_aload_n hx hb d_Mod_run_73 rfl (lv_at hl 1 rfl) ?_
  refine zget hC hd (e_mod hm9.1) rfl i_Mod 17 (by decide) q_670 (Or.inl rfl) (v := .ref (ad 11 17)) rfl d_Mod_run_74 ?_
  refine lv_iconst (v := 4) hx hb d_Mod_run_77 (by decide) ?_
  refine lv_iconst (v := 0) hx hb d_Mod_run_78 (by decide) ?_
  refine ziaS (k := 4) (Z' := (sn Z9 517 4 0)) hC hd (e_m17 hm9.2) (by omega) (by decide) (u_m17 hm9.2) d_Mod_run_79 (fun H locs hd => ?_)
  refine lv_iload_n hx hb d_Mod_run_80 rfl (lv_at hl 0 rfl) ?_
  refine lv_iconst (v := 3) hx hb d_Mod_run_81 (by decide) ?_
  refine lv_icmp_ne (tgt := 90) hx hb d_Mod_run_82 (by decide) (fun c82 => ?_) (fun c82 => ?_)
  · refine lv_aload_n hx hb d_Mod_run_90 rfl (lv_at hl 1 rfl) ?_
    refine zget hC hd (e_mod hm9.1) rfl i_Mod 6 (by decide) q_659 (Or.inl rfl) (v := .ref (ad 11 6)) rfl d_Mod_run_91 ?_
    refine lv_iload_n hx hb d_Mod_run_94 rfl (lv_at hl 2 rfl) ?_
    refine ziaI (k := k) (f := xi Z9 506) hC hd (e_m6 hm9.2) (by omega) (by decide) d_Mod_run_95 ?_
    exact zfi hC hd hr hlk d_Mod_run_96 (by unfold m_runR; (repeat (first | (rw [if_pos]; rotate_left; first | assumption | decide) | (rw [if_neg]; rotate_left; first | assumption | decide))) <;> (try rfl)) rfl
  · refine lv_bipush (v := (-2)) hx hb d_Mod_run_85 (by decide) ?_
    refine lv_goto (tgt := 96) hx hb d_Mod_run_87 (by decide) ?_
    exact zfi hC hd hr hlk d_Mod_run_96 (by unfold m_runR; (repeat (first | (rw [if_pos]; rotate_left; first | assumption | decide) | (rw [if_neg]; rotate_left; first | assumption | decide))) <;> (try rfl)) rfl
def m_fl0 (a : Nat) : Zt → Nat → Nat → Zt
  | Z, _, 0 => Z
  | Z, i, n + 1 => m_fl0 a (si Z 524 i (if i = a then 1 else 0)) (i + 1) n
def m_flI (k : Nat) : Zt → Int32 → Nat → Nat → Zt × Int32
  | Z, g, _, 0 => (Z, g)
  | Z, g, i, n + 1 => if xi Z 524 k = 0 then (if xi Z 524 (xn Z 505 (8 * k + i)) = 0 then m_flI k Z g (i + 1) n else m_flI k (si Z 524 k 1) 1 (i + 1) n) else m_flI k Z g (i + 1) n
def m_flK : Zt → Int32 → Nat → Nat → Zt × Int32
  | Z, g, _, 0 => (Z, g)
  | Z, g, k, n + 1 => m_flK (m_flI k Z g 0 (xn Z 504 k)).1 (m_flI k Z g 0 (xn Z 504 k)).2 (k + 1) n
def m_flW : Nat → Zt → Int32 → Zt → Prop
  | 0, _, _, _ => False
  | n + 1, Z, g, Z' => if g = 0 then Z' = Z else m_flW n (m_flK Z 0 0 (xn Z 20 0)).1 (m_flK Z 0 0 (xn Z 20 0)).2 Z'
/-- all but the leads is the same -/
def LD (Z Z' : Zt) : Prop := (∀ t i, t ≠ 524 → xi Z' t i = xi Z t i) ∧ Z'.2 = Z.2
theorem LD.refl (Z : Zt) : LD Z Z := ⟨fun _ _ _ => rfl, rfl⟩
theorem LD.trans {a b c : Zt} (h1 : LD a b) (h2 : LD b c) : LD a c := ⟨fun t i h => (h2.1 t i h).trans (h1.1 t i h), h2.2.trans h1.2⟩
theorem LD.set (Z : Zt) (i : Nat) (v : Int32) : LD Z (si Z 524 i v) := ⟨fun t j h => by rw [xi_si, if_neg (fun q => h q.1)], rfl⟩
theorem LD.gn {Z Z' : Zt} (h : LD Z Z') (t i : Nat) : xn Z' t i = xn Z t i := by unfold xn; rw [h.2]
theorem LD.gl {Z Z' : Zt} (h : LD Z Z') (t i : Nat) : xl Z' t i = xl Z t i := by unfold xl; rw [h.2]
theorem LD.gc {Z Z' : Zt} (h : LD Z Z') (c t i : Nat) : xc Z' c t i = xc Z c t i := by unfold xc; rw [h.2]
theorem LD.toML {Z Z' : Zt} (h : LD Z Z') (hm : ML Z) : ML Z' := ⟨by rw [h.gn]; exact hm.1, by rw [h.gn]; exact hm.2⟩
theorem LD.toMI {Z Z' : Zt} (h : LD Z Z') (hm : MI Z) : MI Z' := by
  unfold MI at hm ⊢
  simp only [h.gn]
  exact hm
theorem m_fl0_LD (a : Nat) : ∀ (n : Nat) (Z : Zt) (i : Nat), LD Z (m_fl0 a Z i n)
  | 0, Z, _ => LD.refl Z
  | n + 1, Z, i => (LD.set Z i _).trans (m_fl0_LD a n _ (i + 1))
theorem m_flI_LD (k : Nat) : ∀ (n : Nat) (Z : Zt) (g : Int32) (i : Nat), LD Z (m_flI k Z g i n).1
  | 0, Z, _, _ => LD.refl Z
  | n + 1, Z, g, i => by
    unfold m_flI
    split
    · split
      · exact m_flI_LD k n Z g (i + 1)
      · exact (LD.set Z k 1).trans (m_flI_LD k n _ 1 (i + 1))
    · exact m_flI_LD k n Z g (i + 1)
theorem m_flK_LD : ∀ (n : Nat) (Z : Zt) (g : Int32) (k : Nat), LD Z (m_flK Z g k n).1
  | 0, Z, _, _ => LD.refl Z
  | n + 1, Z, g, k => (m_flI_LD k (xn Z 504 k) Z g 0).trans (m_flK_LD n _ _ (k + 1))
theorem m_flW_LD : ∀ (n : Nat) (Z : Zt) (g : Int32) (Z' : Zt), m_flW n Z g Z' → LD Z Z'
  | 0, _, _, _, h => h.elim
  | n + 1, Z, g, Z', h => by
    unfold m_flW at h
    split at h
    · rw [h]; exact LD.refl Z
    · exact (m_flK_LD _ Z 0 0).trans (m_flW_LD n _ _ Z' h)
set_option maxHeartbeats 4000000 in
theorem l1_Mod_fillLeads {p : Program} {l : Launch} {e : Env} {s : State} {m : MethodId} {args : Array Value} {below : List Frame} {meth : Method} {c : Code} {Q : State → Prop} {G : Gt} {ad : Nat → Nat → Nat} {ow : Nat → Nat × Nat} (a : Nat) (ha : a < 40) (N : Nat) (hN : N ≤ 40) (hC : Cx G p c m s args "KeyGraphModel" b_Mod_fillLeads 5) : ∀ (n i : Nat) (Z : Zt) (ls : Array Slot) (H : Heap) (locs : List Loc), i + n = N → ML Z → xn Z 20 0 = N → Dy G ad ow Z s H locs → lv_has ls 5 [(2, .int (nI i)), (0, .ref (ad 10 0)), (1, .int (nI a))] → (∀ (ls : Array Slot) (H : Heap) (locs : List Loc), Dy G ad ow (m_fl0 a Z i n) s H locs → lv_has ls 5 [(2, .int (nI N)), (0, .ref (ad 10 0)), (1, .int (nI a))] → W p l e ({ frames := 1, cells := 0, slots := 0, locals := 22 } : Room) s m args below meth c H locs 0 0 Q (F0 m 32 ls [])) → W p l e ({ frames := 1, cells := 0, slots := 0, locals := 22 } : Room) s m args below meth c H locs 0 0 Q (F0 m 2 ls []) := by
  have hx := hC.1
  have hb := hC.2.1
  intro n
  induction n with
  | zero =>
    intro i Z ls H locs hi hm hk hd hl kk
    refine lv_iload_n hx hb d_Mod_fillLeads_2 rfl (lv_at hl 0 rfl) ?_
    refine lv_aload_n hx hb d_Mod_fillLeads_3 rfl (lv_at hl 1 rfl) ?_
    refine zget hC hd (e_mod hm.1) rfl i_Mod 2 (by decide) q_655 (Or.inl rfl) (v := .int (nI (xn Z 20 0))) rfl d_Mod_fillLeads_4 ?_
    refine zc_ge (x := i) (y := xn Z 20 0) (tgt := 32) (by omega) (by omega) hx hb d_Mod_fillLeads_7 (by decide) (fun c7 => ?_) (fun c7 => absurd hi (by omega))
    obtain rfl : i = N := by omega
    exact kk ls H locs hd hl
  | succ n ih =>
    intro i Z ls H locs hi hm hk hd hl kk
    refine lv_iload_n hx hb d_Mod_fillLeads_2 rfl (lv_at hl 0 rfl) ?_
    refine lv_aload_n hx hb d_Mod_fillLeads_3 rfl (lv_at hl 1 rfl) ?_
    refine zget hC hd (e_mod hm.1) rfl i_Mod 2 (by decide) q_655 (Or.inl rfl) (v := .int (nI (xn Z 20 0))) rfl d_Mod_fillLeads_4 ?_
    refine zc_ge (x := i) (y := xn Z 20 0) (tgt := 32) (by omega) (by omega) hx hb d_Mod_fillLeads_7 (by decide) (fun c7 => absurd hi (by omega)) (fun c7 => ?_)
    refine lv_aload_n hx hb d_Mod_fillLeads_10 rfl (lv_at hl 1 rfl) ?_
    refine zget hC hd (e_mod hm.1) rfl i_Mod 24 (by decide) q_677 (Or.inl rfl) (v := .ref (ad 11 24)) rfl d_Mod_fillLeads_11 ?_
    refine lv_iload_n hx hb d_Mod_fillLeads_14 rfl (lv_at hl 0 rfl) ?_
    refine lv_iload_n hx hb d_Mod_fillLeads_15 rfl (lv_at hl 0 rfl) ?_
    refine lv_iload_n hx hb d_Mod_fillLeads_16 rfl (lv_at hl 2 rfl) ?_
    refine zc_ne (x := i) (y := a) (tgt := 24) (by omega) (by omega) hx hb d_Mod_fillLeads_17 (by decide) (fun c17 => ?_) (fun c17 => ?_)
    · refine lv_iconst (v := 0) hx hb d_Mod_fillLeads_24 (by decide) ?_
      refine zzaS (y := 0) (k := i) (Z' := (si Z 524 i 0)) hC hd (by decide) (e_m24 hm.2) (by omega) (by decide) (u_m24 hm.2) d_Mod_fillLeads_25 (fun H locs hd => ?_)
      refine lv_iinc (v := (nI (i + 1))) (lv' := [(2, .int (nI (i + 1))), (0, .ref (ad 10 0)), (1, .int (nI a))]) hx hb d_Mod_fillLeads_26 hl (k := 0) rfl (by rw [show Int32.ofInt 1 = nI 1 from by decide]; exact nI_add _ _) (by decide) rfl (fun ls hl => ?_)
      refine lv_goto (tgt := 2) hx hb d_Mod_fillLeads_29 (by decide) ?_
      refine ih (i + 1) (si Z 524 i 0) ls H locs (by omega) hm hk hd (lv_sub hl [0, 1, 2] rfl) (fun ls H locs hd hl => kk ls H locs ?_ hl)
      have e2 : (if i = a then (1 : Int32) else 0) = 0 := by (repeat (first | (rw [if_pos]; rotate_left; first | assumption | decide) | (rw [if_neg]; rotate_left; first | assumption | decide))) <;> (try rfl)
      exact Dy.eq hd (congrArg (fun q => m_fl0 a (si Z 524 i q) (i + 1) n) e2.symm)
    · refine lv_iconst (v := 1) hx hb d_Mod_fillLeads_20 (by decide) ?_
      refine lv_goto (tgt := 25) hx hb d_Mod_fillLeads_21 (by decide) ?_
      refine zzaS (y := 1) (k := i) (Z' := (si Z 524 i 1)) hC hd (by decide) (e_m24 hm.2) (by omega) (by decide) (u_m24 hm.2) d_Mod_fillLeads_25 (fun H locs hd => ?_)
      refine lv_iinc (v := (nI (i + 1))) (lv' := [(2, .int (nI (i + 1))), (0, .ref (ad 10 0)), (1, .int (nI a))]) hx hb d_Mod_fillLeads_26 hl (k := 0) rfl (by rw [show Int32.ofInt 1 = nI 1 from by decide]; exact nI_add _ _) (by decide) rfl (fun ls hl => ?_)
      refine lv_goto (tgt := 2) hx hb d_Mod_fillLeads_29 (by decide) ?_
      refine ih (i + 1) (si Z 524 i 1) ls H locs (by omega) hm hk hd (lv_sub hl [0, 1, 2] rfl) (fun ls H locs hd hl => kk ls H locs ?_ hl)
      have e2 : (if i = a then (1 : Int32) else 0) = 1 := by (repeat (first | (rw [if_pos]; rotate_left; first | assumption | decide) | (rw [if_neg]; rotate_left; first | assumption | decide))) <;> (try rfl)
      exact Dy.eq hd (congrArg (fun q => m_fl0 a (si Z 524 i q) (i + 1) n) e2.symm)
set_option maxHeartbeats 4000000 in
theorem l2_Mod_fillLeads {p : Program} {l : Launch} {e : Env} {s : State} {m : MethodId} {args : Array Value} {below : List Frame} {meth : Method} {c : Code} {Q : State → Prop} {G : Gt} {ad : Nat → Nat → Nat} {ow : Nat → Nat × Nat} (a k : Nat) (hk40 : k < 40) (N : Nat) (hN : N ≤ 8) (hC : Cx G p c m s args "KeyGraphModel" b_Mod_fillLeads 5) : ∀ (n i : Nat) (Z : Zt) (g : Int32) (ls : Array Slot) (H : Heap) (locs : List Loc), i + n = N → ML Z → MI Z → xn Z 504 k = N → Dy G ad ow Z s H locs → lv_has ls 5 [(4, .int (nI i)), (3, .int (nI k)), (2, .int g), (0, .ref (ad 10 0)), (1, .int (nI a))] → (∀ (ls : Array Slot) (H : Heap) (locs : List Loc), Dy G ad ow (m_flI k Z g i n).1 s H locs → lv_has ls 5 [(4, .int (nI N)), (3, .int (nI k)), (2, .int ((m_flI k Z g i n).2)), (0, .ref (ad 10 0)), (1, .int (nI a))] → W p l e ({ frames := 1, cells := 0, slots := 0, locals := 22 } : Room) s m args below meth c H locs 0 0 Q (F0 m 106 ls [])) → W p l e ({ frames := 1, cells := 0, slots := 0, locals := 22 } : Room) s m args below meth c H locs 0 0 Q (F0 m 53 ls []) := by
  have hx := hC.1
  have hb := hC.2.1
  intro n
  induction n with
  | zero =>
    intro i Z g ls H locs hi hm hI hk hd hl kk
    refine lv_iload hx hb d_Mod_fillLeads_53 (lv_at hl 0 rfl) ?_
    refine lv_aload_n hx hb d_Mod_fillLeads_55 rfl (lv_at hl 3 rfl) ?_
    refine zget hC hd (e_mod hm.1) rfl i_Mod 4 (by decide) q_657 (Or.inl rfl) (v := .ref (ad 11 4)) rfl d_Mod_fillLeads_56 ?_
    refine lv_iload_n hx hb d_Mod_fillLeads_59 rfl (lv_at hl 1 rfl) ?_
    refine ziaN (k := k) (f := xn Z 504) hC hd (e_m4 hm.2) (by omega) (by decide) d_Mod_fillLeads_60 ?_
    refine zc_ge (x := i) (y := xn Z 504 k) (tgt := 106) (by omega) (by omega) hx hb d_Mod_fillLeads_61 (by decide) (fun c61 => ?_) (fun c61 => absurd hi (by omega))
    obtain rfl : i = N := by omega
    exact kk ls H locs hd hl
  | succ n ih =>
    intro i Z g ls H locs hi hm hI hk hd hl kk
    have h6 := hI.2.2.1 (8 * k + i)
    refine lv_iload hx hb d_Mod_fillLeads_53 (lv_at hl 0 rfl) ?_
    refine lv_aload_n hx hb d_Mod_fillLeads_55 rfl (lv_at hl 3 rfl) ?_
    refine zget hC hd (e_mod hm.1) rfl i_Mod 4 (by decide) q_657 (Or.inl rfl) (v := .ref (ad 11 4)) rfl d_Mod_fillLeads_56 ?_
    refine lv_iload_n hx hb d_Mod_fillLeads_59 rfl (lv_at hl 1 rfl) ?_
    refine ziaN (k := k) (f := xn Z 504) hC hd (e_m4 hm.2) (by omega) (by decide) d_Mod_fillLeads_60 ?_
    refine zc_ge (x := i) (y := xn Z 504 k) (tgt := 106) (by omega) (by omega) hx hb d_Mod_fillLeads_61 (by decide) (fun c61 => absurd hi (by omega)) (fun c61 => ?_)
    refine lv_aload_n hx hb d_Mod_fillLeads_64 rfl (lv_at hl 3 rfl) ?_
    refine zget hC hd (e_mod hm.1) rfl i_Mod 24 (by decide) q_677 (Or.inl rfl) (v := .ref (ad 11 24)) rfl d_Mod_fillLeads_65 ?_
    refine lv_iload_n hx hb d_Mod_fillLeads_68 rfl (lv_at hl 1 rfl) ?_
    refine zzaI (k := k) (f := xi Z 524) hC hd (e_m24 hm.2) (by omega) (by decide) d_Mod_fillLeads_69 ?_
    refine lv_if_ne (tgt := 100) hx hb d_Mod_fillLeads_70 (by decide) (fun c70 => ?_) (fun c70 => ?_)
    · refine lv_iinc (v := (nI (i + 1))) (lv' := [(4, .int (nI (i + 1))), (3, .int (nI k)), (2, .int g), (0, .ref (ad 10 0)), (1, .int (nI a))]) hx hb d_Mod_fillLeads_100 hl (k := 0) rfl (by rw [show Int32.ofInt 1 = nI 1 from by decide]; exact nI_add _ _) (by decide) rfl (fun ls hl => ?_)
      refine lv_goto (tgt := 53) hx hb d_Mod_fillLeads_103 (by decide) ?_
      have e2 : m_flI k Z g i (n + 1) = m_flI k Z g (i + 1) n := by rw [m_flI]; (repeat (first | (rw [if_pos]; rotate_left; first | assumption | decide) | (rw [if_neg]; rotate_left; first | assumption | decide))) <;> (try rfl)
      refine ih (i + 1) Z g ls H locs (by omega) hm hI hk hd (lv_sub hl [0, 1, 2, 3, 4] rfl) (fun ls H locs hd hl => ?_)
      rw [← e2] at hd hl
      exact kk ls H locs hd hl
    · refine lv_aload_n hx hb d_Mod_fillLeads_73 rfl (lv_at hl 3 rfl) ?_
      refine zget hC hd (e_mod hm.1) rfl i_Mod 24 (by decide) q_677 (Or.inl rfl) (v := .ref (ad 11 24)) rfl d_Mod_fillLeads_74 ?_
      refine lv_aload_n hx hb d_Mod_fillLeads_77 rfl (lv_at hl 3 rfl) ?_
      refine lv_iload_n hx hb d_Mod_fillLeads_78 rfl (lv_at hl 1 rfl) ?_
      refine lv_iload hx hb d_Mod_fillLeads_79 (lv_at hl 0 rfl) ?_
      refine zb_i (r := (nI (xn Z 505 (8 * k + i)))) hd (zrunV (n := 2) (rest := [.ref (ad 11 24)]) hC hd (e_mod hm.1) rfl (c_Mod_rowKey l G ad ow Z hm k i (by omega) (by omega)) q_762 q_764 qp_21 q_6 q_765 rfl rfl rfl (by decide +kernel) ⟨by decide, by decide⟩ rfl hl.1 (Nat.le_of_ble_eq_true rfl) d_Mod_fillLeads_81 ⟨by decide, by decide⟩) (fun H locs hd => ?_)
      refine zzaI (k := xn Z 505 (8 * k + i)) (f := xi Z 524) hC hd (e_m24 hm.2) (by omega) (by decide) d_Mod_fillLeads_84 ?_
      refine lv_if_ne (tgt := 91) hx hb d_Mod_fillLeads_85 (by decide) (fun c85 => ?_) (fun c85 => ?_)
      · refine lv_aload_n hx hb d_Mod_fillLeads_91 rfl (lv_at hl 3 rfl) ?_
        refine zget hC hd (e_mod hm.1) rfl i_Mod 24 (by decide) q_677 (Or.inl rfl) (v := .ref (ad 11 24)) rfl d_Mod_fillLeads_92 ?_
        refine lv_iload_n hx hb d_Mod_fillLeads_95 rfl (lv_at hl 1 rfl) ?_
        refine lv_iconst (v := 1) hx hb d_Mod_fillLeads_96 (by decide) ?_
        refine zzaS (y := 1) (k := k) (Z' := (si Z 524 k 1)) hC hd (by decide) (e_m24 hm.2) (by omega) (by decide) (u_m24 hm.2) d_Mod_fillLeads_97 (fun H locs hd => ?_)
        refine lv_iconst (v := 1) hx hb d_Mod_fillLeads_98 (by decide) ?_
        refine lv_istore_n (lv' := [(2, .int 1), (4, .int (nI i)), (3, .int (nI k)), (0, .ref (ad 10 0)), (1, .int (nI a))]) hx hb d_Mod_fillLeads_99 rfl hl (by decide) rfl (fun ls hl => ?_)
        refine lv_iinc (v := (nI (i + 1))) (lv' := [(4, .int (nI (i + 1))), (2, .int 1), (3, .int (nI k)), (0, .ref (ad 10 0)), (1, .int (nI a))]) hx hb d_Mod_fillLeads_100 hl (k := 1) rfl (by rw [show Int32.ofInt 1 = nI 1 from by decide]; exact nI_add _ _) (by decide) rfl (fun ls hl => ?_)
        refine lv_goto (tgt := 53) hx hb d_Mod_fillLeads_103 (by decide) ?_
        have e2 : m_flI k Z g i (n + 1) = m_flI k (si Z 524 k 1) 1 (i + 1) n := by rw [m_flI]; (repeat (first | (rw [if_pos]; rotate_left; first | assumption | decide) | (rw [if_neg]; rotate_left; first | assumption | decide))) <;> (try rfl)
        refine ih (i + 1) (si Z 524 k 1) 1 ls H locs (by omega) hm hI hk hd (lv_sub hl [0, 2, 1, 3, 4] rfl) (fun ls H locs hd hl => ?_)
        rw [← e2] at hd hl
        exact kk ls H locs hd hl
      · refine lv_goto (tgt := 100) hx hb d_Mod_fillLeads_88 (by decide) ?_
        refine lv_iinc (v := (nI (i + 1))) (lv' := [(4, .int (nI (i + 1))), (3, .int (nI k)), (2, .int g), (0, .ref (ad 10 0)), (1, .int (nI a))]) hx hb d_Mod_fillLeads_100 hl (k := 0) rfl (by rw [show Int32.ofInt 1 = nI 1 from by decide]; exact nI_add _ _) (by decide) rfl (fun ls hl => ?_)
        refine lv_goto (tgt := 53) hx hb d_Mod_fillLeads_103 (by decide) ?_
        have e2 : m_flI k Z g i (n + 1) = m_flI k Z g (i + 1) n := by rw [m_flI]; (repeat (first | (rw [if_pos]; rotate_left; first | assumption | decide) | (rw [if_neg]; rotate_left; first | assumption | decide))) <;> (try rfl)
        refine ih (i + 1) Z g ls H locs (by omega) hm hI hk hd (lv_sub hl [0, 1, 2, 3, 4] rfl) (fun ls H locs hd hl => ?_)
        rw [← e2] at hd hl
        exact kk ls H locs hd hl
set_option maxHeartbeats 4000000 in
theorem l3_Mod_fillLeads {p : Program} {l : Launch} {e : Env} {s : State} {m : MethodId} {args : Array Value} {below : List Frame} {meth : Method} {c : Code} {Q : State → Prop} {G : Gt} {ad : Nat → Nat → Nat} {ow : Nat → Nat × Nat} (a : Nat) (N : Nat) (hN : N ≤ 40) (hC : Cx G p c m s args "KeyGraphModel" b_Mod_fillLeads 5) : ∀ (n k : Nat) (Z : Zt) (g : Int32) (ls : Array Slot) (H : Heap) (locs : List Loc), k + n = N → ML Z → MI Z → xn Z 20 0 = N → Dy G ad ow Z s H locs → lv_has ls 5 [(3, .int (nI k)), (2, .int g), (0, .ref (ad 10 0)), (1, .int (nI a))] → (∀ (ls : Array Slot) (H : Heap) (locs : List Loc), Dy G ad ow (m_flK Z g k n).1 s H locs → lv_has ls 5 [(3, .int (nI N)), (2, .int ((m_flK Z g k n).2)), (0, .ref (ad 10 0)), (1, .int (nI a))] → W p l e ({ frames := 1, cells := 0, slots := 0, locals := 22 } : Room) s m args below meth c H locs 0 0 Q (F0 m 112 ls [])) → W p l e ({ frames := 1, cells := 0, slots := 0, locals := 22 } : Room) s m args below meth c H locs 0 0 Q (F0 m 42 ls []) := by
  have hx := hC.1
  have hb := hC.2.1
  intro n
  induction n with
  | zero =>
    intro k Z g ls H locs hi hm hI hk hd hl kk
    refine lv_iload_n hx hb d_Mod_fillLeads_42 rfl (lv_at hl 0 rfl) ?_
    refine lv_aload_n hx hb d_Mod_fillLeads_43 rfl (lv_at hl 2 rfl) ?_
    refine zget hC hd (e_mod hm.1) rfl i_Mod 2 (by decide) q_655 (Or.inl rfl) (v := .int (nI (xn Z 20 0))) rfl d_Mod_fillLeads_44 ?_
    refine zc_ge (x := k) (y := xn Z 20 0) (tgt := 112) (by omega) (by omega) hx hb d_Mod_fillLeads_47 (by decide) (fun c47 => ?_) (fun c47 => absurd hi (by omega))
    obtain rfl : k = N := by omega
    exact kk ls H locs hd hl
  | succ n ih =>
    intro k Z g ls H locs hi hm hI hk hd hl kk
    have h8 := hI.2.1 k
    refine lv_iload_n hx hb d_Mod_fillLeads_42 rfl (lv_at hl 0 rfl) ?_
    refine lv_aload_n hx hb d_Mod_fillLeads_43 rfl (lv_at hl 2 rfl) ?_
    refine zget hC hd (e_mod hm.1) rfl i_Mod 2 (by decide) q_655 (Or.inl rfl) (v := .int (nI (xn Z 20 0))) rfl d_Mod_fillLeads_44 ?_
    refine zc_ge (x := k) (y := xn Z 20 0) (tgt := 112) (by omega) (by omega) hx hb d_Mod_fillLeads_47 (by decide) (fun c47 => absurd hi (by omega)) (fun c47 => ?_)
    refine lv_iconst (v := 0) hx hb d_Mod_fillLeads_50 (by decide) ?_
    refine lv_istore (lv' := [(4, .int 0), (3, .int (nI k)), (2, .int g), (0, .ref (ad 10 0)), (1, .int (nI a))]) hx hb d_Mod_fillLeads_51 hl (by decide) rfl (fun ls hl => ?_)
    refine l2_Mod_fillLeads a k (by omega) (xn Z 504 k) h8 hC (xn Z 504 k) 0 Z g ls H locs (by omega) hm hI rfl hd (lv_sub hl [0, 1, 2, 3, 4] rfl) (fun ls H locs hd hl => ?_)
    have hL := m_flI_LD k (xn Z 504 k) Z g 0
    refine lv_iinc (v := (nI (k + 1))) (lv' := [(3, .int (nI (k + 1))), (4, .int (nI (xn Z 504 k))), (2, .int ((m_flI k Z g 0 (xn Z 504 k)).2)), (0, .ref (ad 10 0)), (1, .int (nI a))]) hx hb d_Mod_fillLeads_106 hl (k := 1) rfl (by rw [show Int32.ofInt 1 = nI 1 from by decide]; exact nI_add _ _) (by decide) rfl (fun ls hl => ?_)
    refine lv_goto (tgt := 42) hx hb d_Mod_fillLeads_109 (by decide) ?_
    exact ih (k + 1) _ _ ls H locs (by omega) (hL.toML hm) (hL.toMI hI) (by rw [hL.gn]; exact hk) hd (lv_sub hl [0, 2, 3, 4] rfl) kk
set_option maxHeartbeats 4000000 in
theorem l4_Mod_fillLeads {p : Program} {l : Launch} {e : Env} {s : State} {m : MethodId} {args : Array Value} {below : List Frame} {meth : Method} {c : Code} {Q : State → Prop} {G : Gt} {ad : Nat → Nat → Nat} {ow : Nat → Nat × Nat} (a : Nat) (Z9 : Zt) (hC : Cx G p c m s args "KeyGraphModel" b_Mod_fillLeads 5) : ∀ (n : Nat) (Z : Zt) (g : Int32) (ls : Array Slot) (H : Heap) (locs : List Loc), m_flW n Z g Z9 → ML Z → MI Z → Dy G ad ow Z s H locs → lv_has ls 5 [(2, .int g), (0, .ref (ad 10 0)), (1, .int (nI a))] → (∀ (ls : Array Slot) (H : Heap) (locs : List Loc), Dy G ad ow Z9 s H locs → W p l e ({ frames := 1, cells := 0, slots := 0, locals := 22 } : Room) s m args below meth c H locs 0 0 Q (F0 m 115 ls [])) → W p l e ({ frames := 1, cells := 0, slots := 0, locals := 22 } : Room) s m args below meth c H locs 0 0 Q (F0 m 34 ls []) := by
  have hx := hC.1
  have hb := hC.2.1
  intro n
  induction n with
  | zero => exact fun Z g ls H locs hw => hw.elim
  | succ n ih =>
    intro Z g ls H locs hw hm hI hd hl kk
    unfold m_flW at hw
    refine lv_iload_n hx hb d_Mod_fillLeads_34 rfl (lv_at hl 0 rfl) ?_
    refine lv_if_eq (tgt := 115) hx hb d_Mod_fillLeads_35 (by decide) (fun c35 => ?_) (fun c35 => ?_)
    · rw [if_pos c35] at hw
      exact kk ls H locs (Dy.eq hd hw.symm)
    · refine lv_iconst (v := 0) hx hb d_Mod_fillLeads_38 (by decide) ?_
      refine lv_istore_n (lv' := [(2, .int 0), (0, .ref (ad 10 0)), (1, .int (nI a))]) hx hb d_Mod_fillLeads_39 rfl hl (by decide) rfl (fun ls hl => ?_)
      refine lv_iconst (v := 0) hx hb d_Mod_fillLeads_40 (by decide) ?_
      refine lv_istore_n (lv' := [(3, .int 0), (2, .int 0), (0, .ref (ad 10 0)), (1, .int (nI a))]) hx hb d_Mod_fillLeads_41 rfl hl (by decide) rfl (fun ls hl => ?_)
      rw [if_neg c35] at hw
      refine l3_Mod_fillLeads a (xn Z 20 0) hI.1 hC (xn Z 20 0) 0 Z 0 ls H locs (by omega) hm hI rfl hd (lv_sub hl [0, 1, 2, 3] rfl) (fun ls H locs hd hl => ?_)
      have hL := m_flK_LD (xn Z 20 0) Z 0 0
      refine lv_goto (tgt := 34) hx hb d_Mod_fillLeads_112 (by decide) ?_
      exact ih _ _ ls H locs hw (hL.toML hm) (hL.toMI hI) hd (lv_sub hl [1, 2, 3] rfl) kk
set_option maxHeartbeats 4000000 in
theorem c_Mod_fillLeads (l : Launch) (G : Gt) (ad : Nat → Nat → Nat) (ow : Nat → Nat × Nat) (Z : Zt) (hm : ML Z) (hI : MI Z) (a : Nat) (ha : a < 40) (N : Nat) (Z9 : Zt) (hw : m_flW N (m_fl0 a Z 0 (xn Z 20 0)) 1 Z9) : Met l y_Mod_fillLeads w_Mod_fillLeads ({ frames := 1, cells := 0, slots := 0, locals := 22 }) (zPc G ad ow Z [.ref (ad 10 0), .int (nI a)]) (Qd G ad ow Z9 (none)) 0 0 (zA G) := by
  refine zopen (cc := b_Mod_fillLeads) (maxL := 5) (ret := none) (by decide) rfl (Nat.le_of_ble_eq_true rfl) ?_
  intro p e s m below meth c ls hC hr hlk hnm hd hl
  have hC : Cx G p c m s _ "KeyGraphModel" b_Mod_fillLeads 5 := hC
  have hl : lv_has ls 5 [(0, .ref (ad 10 0)), (1, .int (nI a))] := hl
  have hx := hC.1
  have hb := hC.2.1
  obtain ⟨H, hH⟩ : ∃ q, q = s.heap := ⟨_, rfl⟩
  obtain ⟨locs, hlocs⟩ : ∃ q : List Loc, q = [] := ⟨_, rfl⟩
  rw [← hH, ← hlocs] at hd
  rw [← hH, ← hlocs]
  refine lv_iconst (v := 0) hx hb d_Mod_fillLeads_0 (by decide) ?_
  refine lv_istore_n (lv' := [(2, .int 0), (0, .ref (ad 10 0)), (1, .int (nI a))]) hx hb d_Mod_fillLeads_1 rfl hl (by decide) rfl (fun ls hl => ?_)
  refine l1_Mod_fillLeads a ha (xn Z 20 0) hI.1 hC (xn Z 20 0) 0 Z ls H locs (by omega) hm rfl hd (lv_sub hl [0, 1, 2] rfl) (fun ls H locs hd hl => ?_)
  have hL := m_fl0_LD a (xn Z 20 0) Z 0
  refine lv_iconst (v := 1) hx hb d_Mod_fillLeads_32 (by decide) ?_
  refine lv_istore_n (lv' := [(2, .int 1), (0, .ref (ad 10 0)), (1, .int (nI a))]) hx hb d_Mod_fillLeads_33 rfl hl (by decide) rfl (fun ls hl => ?_)
  refine l4_Mod_fillLeads a Z9 hC N _ 1 ls H locs hw (hL.toML hm) (hL.toMI hI) hd (lv_sub hl [0, 1, 2] rfl) (fun ls H locs hd => ?_)
  exact zfv hC hd hr hlk d_Mod_fillLeads_115 rfl
set_option maxHeartbeats 4000000 in
theorem lp_Mod_firstBack {p : Program} {l : Launch} {e : Env} {s : State} {m : MethodId} {args : Array Value} {below : List Frame} {meth : Method} {c : Code} {Q : State → Prop} {G : Gt} {ad : Nat → Nat → Nat} {ow : Nat → Nat × Nat} {Z : Zt} (hm : ML Z) (hI : MI Z) (k i9 : Nat) (hk : k < 40) (hi9 : i9 < 8) (hz : ∀ j, j < i9 → xi Z 524 (xn Z 505 (8 * k + j)) = 0) (hnz : ¬ xi Z 524 (xn Z 505 (8 * k + i9)) = 0) (hC : Cx G p c m s args "KeyGraphModel" b_Mod_firstBack 3) : ∀ (n i : Nat) (ls : Array Slot) (H : Heap) (locs : List Loc), i + n = i9 → Dy G ad ow Z s H locs → lv_has ls 3 [(2, .int (nI i)), (0, .ref (ad 10 0)), (1, .int (nI k))] → (∀ (ls : Array Slot) (H : Heap) (locs : List Loc), Dy G ad ow Z s H locs → lv_has ls 3 [(2, .int (nI i9)), (0, .ref (ad 10 0)), (1, .int (nI k))] → W p l e ({ frames := 1, cells := 0, slots := 0, locals := 22 } : Room) s m args below meth c H locs 0 0 Q (F0 m 22 ls [])) → W p l e ({ frames := 1, cells := 0, slots := 0, locals := 22 } : Room) s m args below meth c H locs 0 0 Q (F0 m 2 ls []) := by
  have hx := hC.1
  have hb := hC.2.1
  intro n
  induction n with
  | zero =>
    intro i ls H locs hi hd hl kk
    obtain rfl : i = i9 := by omega
    have h6 := hI.2.2.1 (8 * k + i)
    refine lv_aload_n hx hb d_Mod_firstBack_2 rfl (lv_at hl 1 rfl) ?_
    refine zget hC hd (e_mod hm.1) rfl i_Mod 24 (by decide) q_677 (Or.inl rfl) (v := .ref (ad 11 24)) rfl d_Mod_firstBack_3 ?_
    refine lv_aload_n hx hb d_Mod_firstBack_6 rfl (lv_at hl 1 rfl) ?_
    refine lv_iload_n hx hb d_Mod_firstBack_7 rfl (lv_at hl 2 rfl) ?_
    refine lv_iload_n hx hb d_Mod_firstBack_8 rfl (lv_at hl 0 rfl) ?_
    refine zb_i (r := (nI (xn Z 505 (8 * k + i)))) hd (zrunV (n := 2) (rest := [.ref (ad 11 24)]) hC hd (e_mod hm.1) rfl (c_Mod_rowKey l G ad ow Z hm k i (by omega) (by omega)) q_762 q_764 qp_21 q_6 q_765 rfl rfl rfl (by decide +kernel) ⟨by decide, by decide⟩ rfl hl.1 (Nat.le_of_ble_eq_true rfl) d_Mod_firstBack_9 ⟨by decide, by decide⟩) (fun H locs hd => ?_)
    refine zzaI (k := xn Z 505 (8 * k + i)) (f := xi Z 524) hC hd (e_m24 hm.2) (by omega) (by decide) d_Mod_firstBack_12 ?_
    refine lv_if_ne (tgt := 22) hx hb d_Mod_firstBack_13 (by decide) (fun c13 => ?_) (fun c13 => absurd c13 hnz)
    exact kk ls H locs hd hl
  | succ n ih =>
    intro i ls H locs hi hd hl kk
    have h6 := hI.2.2.1 (8 * k + i)
    refine lv_aload_n hx hb d_Mod_firstBack_2 rfl (lv_at hl 1 rfl) ?_
    refine zget hC hd (e_mod hm.1) rfl i_Mod 24 (by decide) q_677 (Or.inl rfl) (v := .ref (ad 11 24)) rfl d_Mod_firstBack_3 ?_
    refine lv_aload_n hx hb d_Mod_firstBack_6 rfl (lv_at hl 1 rfl) ?_
    refine lv_iload_n hx hb d_Mod_firstBack_7 rfl (lv_at hl 2 rfl) ?_
    refine lv_iload_n hx hb d_Mod_firstBack_8 rfl (lv_at hl 0 rfl) ?_
    refine zb_i (r := (nI (xn Z 505 (8 * k + i)))) hd (zrunV (n := 2) (rest := [.ref (ad 11 24)]) hC hd (e_mod hm.1) rfl (c_Mod_rowKey l G ad ow Z hm k i (by omega) (by omega)) q_762 q_764 qp_21 q_6 q_765 rfl rfl rfl (by decide +kernel) ⟨by decide, by decide⟩ rfl hl.1 (Nat.le_of_ble_eq_true rfl) d_Mod_firstBack_9 ⟨by decide, by decide⟩) (fun H locs hd => ?_)
    refine zzaI (k := xn Z 505 (8 * k + i)) (f := xi Z 524) hC hd (e_m24 hm.2) (by omega) (by decide) d_Mod_firstBack_12 ?_
    refine lv_if_ne (tgt := 22) hx hb d_Mod_firstBack_13 (by decide) (fun c13 => absurd (hz i (by omega)) c13) (fun c13 => ?_)
    refine lv_iinc (v := (nI (i + 1))) (lv' := [(2, .int (nI (i + 1))), (0, .ref (ad 10 0)), (1, .int (nI k))]) hx hb d_Mod_firstBack_16 hl (k := 0) rfl (by rw [show Int32.ofInt 1 = nI 1 from by decide]; exact nI_add _ _) (by decide) rfl (fun ls hl => ?_)
    refine lv_goto (tgt := 2) hx hb d_Mod_firstBack_19 (by decide) ?_
    exact ih (i + 1) ls H locs (by omega) hd (lv_sub hl [0, 1, 2] rfl) kk
set_option maxHeartbeats 4000000 in
theorem c_Mod_firstBack (l : Launch) (G : Gt) (ad : Nat → Nat → Nat) (ow : Nat → Nat × Nat) (Z : Zt) (hm : ML Z) (hI : MI Z) (k i9 : Nat) (hk : k < 40) (hi9 : i9 < 8) (hz : ∀ j, j < i9 → xi Z 524 (xn Z 505 (8 * k + j)) = 0) (hnz : ¬ xi Z 524 (xn Z 505 (8 * k + i9)) = 0) : Met l y_Mod_firstBack w_Mod_firstBack ({ frames := 1, cells := 0, slots := 0, locals := 22 }) (zPc G ad ow Z [.ref (ad 10 0), .int (nI k)]) (Qd G ad ow Z (some (.int (nI (xn Z 505 (8 * k + i9)))))) 0 0 (zA G) := by
  refine zopen (cc := b_Mod_firstBack) (maxL := 3) (ret := (some FieldType.int)) (by decide) rfl (Nat.le_of_ble_eq_true rfl) ?_
  intro p e s m below meth c ls hC hr hlk hnm hd hl
  have hC : Cx G p c m s _ "KeyGraphModel" b_Mod_firstBack 3 := hC
  have hl : lv_has ls 3 [(0, .ref (ad 10 0)), (1, .int (nI k))] := hl
  have hx := hC.1
  have hb := hC.2.1
  obtain ⟨H, hH⟩ : ∃ q, q = s.heap := ⟨_, rfl⟩
  obtain ⟨locs, hlocs⟩ : ∃ q : List Loc, q = [] := ⟨_, rfl⟩
  rw [← hH, ← hlocs] at hd
  rw [← hH, ← hlocs]
  refine lv_iconst (v := 0) hx hb d_Mod_firstBack_0 (by decide) ?_
  refine lv_istore_n (lv' := [(2, .int 0), (0, .ref (ad 10 0)), (1, .int (nI k))]) hx hb d_Mod_firstBack_1 rfl hl (by decide) rfl (fun ls hl => ?_)
  refine lp_Mod_firstBack hm hI k i9 hk hi9 hz hnz hC i9 0 ls H locs (by omega) hd (lv_sub hl [0, 1, 2] rfl) (fun ls H locs hd hl => ?_)
  refine lv_aload_n hx hb d_Mod_firstBack_22 rfl (lv_at hl 1 rfl) ?_
  refine lv_iload_n hx hb d_Mod_firstBack_23 rfl (lv_at hl 2 rfl) ?_
  refine lv_iload_n hx hb d_Mod_firstBack_24 rfl (lv_at hl 0 rfl) ?_
  refine zb_i (r := (nI (xn Z 505 (8 * k + i9)))) hd (zrunV (n := 2) (rest := []) hC hd (e_mod hm.1) rfl (c_Mod_rowKey l G ad ow Z hm k i9 (by omega) (by omega)) q_762 q_764 qp_21 q_6 q_765 rfl rfl rfl (by decide +kernel) ⟨by decide, by decide⟩ rfl hl.1 (Nat.le_of_ble_eq_true rfl) d_Mod_firstBack_25 ⟨by decide, by decide⟩) (fun H locs hd => ?_)
  exact zfi hC hd hr hlk d_Mod_firstBack_28 rfl rfl
def m_fb (Z : Zt) (k i9 : Nat) : Prop := i9 < 8 ∧ (∀ j, j < i9 → xi Z 524 (xn Z 505 (8 * k + j)) = 0) ∧ ¬ xi Z 524 (xn Z 505 (8 * k + i9)) = 0
/-- the ring is told: from h on, key by key, until a -/
def m_rg (a : Nat) : Nat → Zt → Nat → Zt → Prop
  | 0, _, _, _ => False
  | n + 1, Z, h, Z' => if h = a then Z' = Z else xn Z 21 0 < 40 ∧ ∃ i, m_fb Z h i ∧ m_rg a n (sn (sn Z 522 (xn Z 21 0) h) 21 0 (xn Z 21 0 + 1)) (xn Z 505 (8 * h + i)) Z'
def m_asksY (Z : Zt) (k q : Nat) : Zt := si (m_next (sn (sn Z 505 (8 * k + xn Z 504 k) q) 504 k (xn Z 504 k + 1))) 509 k (xi Z 21 0 + 1)
theorem MI.ring {Z : Zt} (hI : MI Z) {h : Nat} (hh : h < 40) (hr : xn Z 21 0 < 40) : MI (sn (sn Z 522 (xn Z 21 0) h) 21 0 (xn Z 21 0 + 1)) := by
  obtain ⟨a1, a2, a3, a4, a5, a6, a7, a8, a9, a10, a11⟩ := hI
  refine ⟨a1, a2, a3, a4, a5, a6, a7, a8, a9, ?_, ?_⟩
  · show xn Z 21 0 + 1 ≤ 40
    omega
  · intro j
    show xn (sn Z 522 (xn Z 21 0) h) 522 j < 40
    rw [xn_sn]
    split
    · exact hh
    · exact a11 j
set_option maxHeartbeats 4000000 in
theorem lp_Mod_asks {p : Program} {l : Launch} {e : Env} {s : State} {m : MethodId} {args : Array Value} {below : List Frame} {meth : Method} {c : Code} {Q : State → Prop} {G : Gt} {ad : Nat → Nat → Nat} {ow : Nat → Nat × Nat} (a q : Nat) (ha : a < 40) (Z9 : Zt) (hC : Cx G p c m s args "KeyGraphModel" b_Mod_asks 4) : ∀ (n : Nat) (Z : Zt) (h : Nat) (ls : Array Slot) (H : Heap) (locs : List Loc), m_rg a n Z h Z9 → h < 40 → ML Z → MI Z → Dy G ad ow Z s H locs → lv_has ls 4 [(3, .int (nI h)), (0, .ref (ad 10 0)), (1, .int (nI a)), (2, .int (nI q))] → (∀ (ls : Array Slot) (H : Heap) (locs : List Loc), Dy G ad ow Z9 s H locs → W p l e ({ frames := 2, cells := 0, slots := 0, locals := 46 } : Room) s m args below meth c H locs 0 0 Q (F0 m 104 ls [])) → W p l e ({ frames := 2, cells := 0, slots := 0, locals := 46 } : Room) s m args below meth c H locs 0 0 Q (F0 m 70 ls []) := by
  have hx := hC.1
  have hb := hC.2.1
  intro n
  induction n with
  | zero => exact fun Z h ls H locs hw => hw.elim
  | succ n ih =>
    intro Z h ls H locs hw hh hm hI hd hl kk
    unfold m_rg at hw
    refine lv_iload_n hx hb d_Mod_asks_70 rfl (lv_at hl 0 rfl) ?_
    refine lv_iload_n hx hb d_Mod_asks_71 rfl (lv_at hl 2 rfl) ?_
    refine zc_eq (x := h) (y := a) (tgt := 104) (by omega) (by omega) hx hb d_Mod_asks_72 (by decide) (fun c72 => ?_) (fun c72 => ?_)
    · rw [if_pos c72] at hw
      exact kk ls H locs (Dy.eq hd hw.symm)
    · rw [if_neg c72] at hw
      obtain ⟨hr40, i9, hf, hw⟩ := hw
      have h6 := hI.2.2.1 (8 * h + i9)
      have hI2 := hI.ring hh hr40
      refine lv_aload_n hx hb d_Mod_asks_75 rfl (lv_at hl 1 rfl) ?_
      refine zget hC hd (e_mod hm.1) rfl i_Mod 22 (by decide) q_675 (Or.inl rfl) (v := .ref (ad 11 22)) rfl d_Mod_asks_76 ?_
      refine lv_aload_n hx hb d_Mod_asks_79 rfl (lv_at hl 1 rfl) ?_
      refine zget hC hd (e_mod hm.1) rfl i_Mod 23 (by decide) q_676 (Or.inl rfl) (v := .int (nI (xn Z 21 0))) rfl d_Mod_asks_80 ?_
      refine lv_iload_n hx hb d_Mod_asks_83 rfl (lv_at hl 0 rfl) ?_
      refine ziaS (k := xn Z 21 0) (Z' := (sn Z 522 (xn Z 21 0) h)) hC hd (e_m22 hm.2) (by omega) (by decide) (u_m22 hm.2) d_Mod_asks_84 (fun H locs hd => ?_)
      refine lv_aload_n hx hb d_Mod_asks_85 rfl (lv_at hl 1 rfl) ?_
      refine lv_dup hx hb d_Mod_asks_86 rfl ?_
      refine zget hC hd (e_mod hm.1) rfl i_Mod 23 (by decide) q_676 (Or.inl rfl) (v := .int (nI (xn Z 21 0))) rfl d_Mod_asks_87 ?_
      refine lv_iconst (v := 1) hx hb d_Mod_asks_90 (by decide) ?_
      refine zaddN (x := xn Z 21 0) (y := 1) hx hb d_Mod_asks_91 ?_
      refine zput (Z' := (sn (sn Z 522 (xn Z 21 0) h) 21 0 ((xn Z 21 0) + 1))) hC hd (e_mod hm.1) rfl i_Mod t_Mod t_Mod_ok n_Mod 23 (by decide) q_676 (Or.inl rfl) rfl rfl rfl (Nat.le_of_ble_eq_true rfl) (u_mringN hm.1) d_Mod_asks_92 (fun H locs hd => ?_)
      refine lv_aload_n hx hb d_Mod_asks_95 rfl (lv_at hl 1 rfl) ?_
      refine lv_iload_n hx hb d_Mod_asks_96 rfl (lv_at hl 0 rfl) ?_
      refine zb_i (r := (nI (xn Z 505 (8 * h + i9)))) hd (zrunV (n := 1) (rest := []) hC hd (e_mod hm.1) rfl (c_Mod_firstBack l G ad ow (sn (sn Z 522 (xn Z 21 0) h) 21 0 ((xn Z 21 0) + 1)) hm hI2 h i9 (by omega) hf.1 hf.2.1 hf.2.2) q_766 q_768 qp_22 q_6 q_769 rfl rfl rfl (by decide +kernel) ⟨by decide, by decide⟩ rfl hl.1 (Nat.le_of_ble_eq_true rfl) d_Mod_asks_97 ⟨by decide, by decide⟩) (fun H locs hd => ?_)
      refine lv_istore_n (lv' := [(3, .int (nI (xn Z 505 (8 * h + i9)))), (0, .ref (ad 10 0)), (1, .int (nI a)), (2, .int (nI q))]) hx hb d_Mod_asks_100 rfl hl (by decide) rfl (fun ls hl => ?_)
      refine lv_goto (tgt := 70) hx hb d_Mod_asks_101 (by decide) ?_
      exact ih _ _ ls H locs hw (by omega) hm hI2 hd (lv_sub hl [0, 1, 2, 3] rfl) kk
set_option maxHeartbeats 4000000 in
theorem c_Mod_asks_no1 (l : Launch) (G : Gt) (ad : Nat → Nat → Nat) (ow : Nat → Nat × Nat) (Z : Zt) (hm : ML Z) (k q : Int32) (h0 : m_isKey Z k = 0) : Met l y_Mod_asks w_Mod_asks ({ frames := 2, cells := 0, slots := 0, locals := 46 }) (zPc G ad ow Z [.ref (ad 10 0), .int k, .int q]) (Qd G ad ow (m0 Z) (some (.int (-1)))) 0 0 (zA G) := by
  refine zopen (cc := b_Mod_asks) (maxL := 4) (ret := (some FieldType.int)) (by decide) rfl (Nat.le_of_ble_eq_true rfl) ?_
  intro p e s m below meth c ls hC hr hlk hnm hd hl
  have hC : Cx G p c m s _ "KeyGraphModel" b_Mod_asks 4 := hC
  have hl : lv_has ls 4 [(0, .ref (ad 10 0)), (1, .int k), (2, .int q)] := hl
  have hx := hC.1
  have hb := hC.2.1
  refine lv_aload_n hx hb d_Mod_asks_0 rfl (lv_at hl 0 rfl) ?_
  refine lv_iconst (v := 0) hx hb d_Mod_asks_1 (by decide) ?_
  refine zput (Z' := (si Z 20 0 0)) hC hd (e_mod hm.1) rfl i_Mod t_Mod t_Mod_ok n_Mod 0 (by decide) q_653 (Or.inl rfl) rfl rfl rfl (Nat.le_of_ble_eq_true rfl) (u_mcode hm.1) d_Mod_asks_2 (fun H locs hd => ?_)
  refine lv_aload_n hx hb d_Mod_asks_5 rfl (lv_at hl 0 rfl) ?_
  refine lv_iload_n hx hb d_Mod_asks_6 rfl (lv_at hl 1 rfl) ?_
  refine zb_i (r := 0) hd (zrunV (n := 1) (rest := []) hC hd (e_mod hm.1) rfl (c_Mod_isKey_r l G ad ow (si Z 20 0 0) hm k 0 h0) q_750 q_752 qp_18 q_6 q_753 rfl rfl rfl (by decide +kernel) ⟨by decide, by decide⟩ rfl hl.1 (Nat.le_of_ble_eq_true rfl) d_Mod_asks_7 ⟨by decide, by decide⟩) (fun H locs hd => ?_)
  refine lv_if_eq (tgt := 40) hx hb d_Mod_asks_10 (by decide) (fun _ => ?_) (fun c => absurd c (by decide))
  refine lv_iconst (v := (-1)) hx hb d_Mod_asks_40 (by decide) ?_
  exact zfi hC hd hr hlk d_Mod_asks_41 rfl rfl
set_option maxHeartbeats 4000000 in
theorem c_Mod_asks_no2 (l : Launch) (G : Gt) (ad : Nat → Nat → Nat) (ow : Nat → Nat × Nat) (Z : Zt) (hm : ML Z) (k q : Int32) (h0 : m_isKey Z k = 1) (h1 : m_isKey Z q = 0) : Met l y_Mod_asks w_Mod_asks ({ frames := 2, cells := 0, slots := 0, locals := 46 }) (zPc G ad ow Z [.ref (ad 10 0), .int k, .int q]) (Qd G ad ow (m0 Z) (some (.int (-1)))) 0 0 (zA G) := by
  refine zopen (cc := b_Mod_asks) (maxL := 4) (ret := (some FieldType.int)) (by decide) rfl (Nat.le_of_ble_eq_true rfl) ?_
  intro p e s m below meth c ls hC hr hlk hnm hd hl
  have hC : Cx G p c m s _ "KeyGraphModel" b_Mod_asks 4 := hC
  have hl : lv_has ls 4 [(0, .ref (ad 10 0)), (1, .int k), (2, .int q)] := hl
  have hx := hC.1
  have hb := hC.2.1
  refine lv_aload_n hx hb d_Mod_asks_0 rfl (lv_at hl 0 rfl) ?_
  refine lv_iconst (v := 0) hx hb d_Mod_asks_1 (by decide) ?_
  refine zput (Z' := (si Z 20 0 0)) hC hd (e_mod hm.1) rfl i_Mod t_Mod t_Mod_ok n_Mod 0 (by decide) q_653 (Or.inl rfl) rfl rfl rfl (Nat.le_of_ble_eq_true rfl) (u_mcode hm.1) d_Mod_asks_2 (fun H locs hd => ?_)
  refine lv_aload_n hx hb d_Mod_asks_5 rfl (lv_at hl 0 rfl) ?_
  refine lv_iload_n hx hb d_Mod_asks_6 rfl (lv_at hl 1 rfl) ?_
  refine zb_i (r := 1) hd (zrunV (n := 1) (rest := []) hC hd (e_mod hm.1) rfl (c_Mod_isKey_r l G ad ow (si Z 20 0 0) hm k 1 h0) q_750 q_752 qp_18 q_6 q_753 rfl rfl rfl (by decide +kernel) ⟨by decide, by decide⟩ rfl hl.1 (Nat.le_of_ble_eq_true rfl) d_Mod_asks_7 ⟨by decide, by decide⟩) (fun H locs hd => ?_)
  refine lv_if_eq (tgt := 40) hx hb d_Mod_asks_10 (by decide) (fun c => absurd c (by decide)) (fun _ => ?_)
  refine lv_aload_n hx hb d_Mod_asks_13 rfl (lv_at hl 0 rfl) ?_
  refine lv_iload_n hx hb d_Mod_asks_14 rfl (lv_at hl 2 rfl) ?_
  refine zb_i (r := 0) hd (zrunV (n := 1) (rest := []) hC hd (e_mod hm.1) rfl (c_Mod_isKey_r l G ad ow (si Z 20 0 0) hm q 0 h1) q_750 q_752 qp_18 q_6 q_753 rfl rfl rfl (by decide +kernel) ⟨by decide, by decide⟩ rfl hl.1 (Nat.le_of_ble_eq_true rfl) d_Mod_asks_15 ⟨by decide, by decide⟩) (fun H locs hd => ?_)
  refine lv_if_eq (tgt := 40) hx hb d_Mod_asks_18 (by decide) (fun _ => ?_) (fun c => absurd c (by decide))
  refine lv_iconst (v := (-1)) hx hb d_Mod_asks_40 (by decide) ?_
  exact zfi hC hd hr hlk d_Mod_asks_41 rfl rfl
set_option maxHeartbeats 4000000 in
theorem c_Mod_asks_no3 (l : Launch) (G : Gt) (ad : Nat → Nat → Nat) (ow : Nat → Nat × Nat) (Z : Zt) (hm : ML Z) (hn : xn Z 20 0 ≤ 40) (k q : Int32) (h0 : m_isKey Z k = 1) (h1 : m_isKey Z q = 1) (h2 : m_isLeaf Z k = 1) : Met l y_Mod_asks w_Mod_asks ({ frames := 2, cells := 0, slots := 0, locals := 46 }) (zPc G ad ow Z [.ref (ad 10 0), .int k, .int q]) (Qd G ad ow (m0 Z) (some (.int (-1)))) 0 0 (zA G) := by
  refine zopen (cc := b_Mod_asks) (maxL := 4) (ret := (some FieldType.int)) (by decide) rfl (Nat.le_of_ble_eq_true rfl) ?_
  intro p e s m below meth c ls hC hr hlk hnm hd hl
  have hC : Cx G p c m s _ "KeyGraphModel" b_Mod_asks 4 := hC
  have hl : lv_has ls 4 [(0, .ref (ad 10 0)), (1, .int k), (2, .int q)] := hl
  have hx := hC.1
  have hb := hC.2.1
  refine lv_aload_n hx hb d_Mod_asks_0 rfl (lv_at hl 0 rfl) ?_
  refine lv_iconst (v := 0) hx hb d_Mod_asks_1 (by decide) ?_
  refine zput (Z' := (si Z 20 0 0)) hC hd (e_mod hm.1) rfl i_Mod t_Mod t_Mod_ok n_Mod 0 (by decide) q_653 (Or.inl rfl) rfl rfl rfl (Nat.le_of_ble_eq_true rfl) (u_mcode hm.1) d_Mod_asks_2 (fun H locs hd => ?_)
  refine lv_aload_n hx hb d_Mod_asks_5 rfl (lv_at hl 0 rfl) ?_
  refine lv_iload_n hx hb d_Mod_asks_6 rfl (lv_at hl 1 rfl) ?_
  refine zb_i (r := 1) hd (zrunV (n := 1) (rest := []) hC hd (e_mod hm.1) rfl (c_Mod_isKey_r l G ad ow (si Z 20 0 0) hm k 1 h0) q_750 q_752 qp_18 q_6 q_753 rfl rfl rfl (by decide +kernel) ⟨by decide, by decide⟩ rfl hl.1 (Nat.le_of_ble_eq_true rfl) d_Mod_asks_7 ⟨by decide, by decide⟩) (fun H locs hd => ?_)
  refine lv_if_eq (tgt := 40) hx hb d_Mod_asks_10 (by decide) (fun c => absurd c (by decide)) (fun _ => ?_)
  refine lv_aload_n hx hb d_Mod_asks_13 rfl (lv_at hl 0 rfl) ?_
  refine lv_iload_n hx hb d_Mod_asks_14 rfl (lv_at hl 2 rfl) ?_
  refine zb_i (r := 1) hd (zrunV (n := 1) (rest := []) hC hd (e_mod hm.1) rfl (c_Mod_isKey_r l G ad ow (si Z 20 0 0) hm q 1 h1) q_750 q_752 qp_18 q_6 q_753 rfl rfl rfl (by decide +kernel) ⟨by decide, by decide⟩ rfl hl.1 (Nat.le_of_ble_eq_true rfl) d_Mod_asks_15 ⟨by decide, by decide⟩) (fun H locs hd => ?_)
  refine lv_if_eq (tgt := 40) hx hb d_Mod_asks_18 (by decide) (fun c => absurd c (by decide)) (fun _ => ?_)
  refine lv_aload_n hx hb d_Mod_asks_21 rfl (lv_at hl 0 rfl) ?_
  refine lv_iload_n hx hb d_Mod_asks_22 rfl (lv_at hl 1 rfl) ?_
  refine zb_i (r := 1) hd (zrunV (n := 1) (rest := []) hC hd (e_mod hm.1) rfl (c_Mod_isLeaf_r l G ad ow (si Z 20 0 0) hm hn k 1 h2) q_754 q_756 qp_19 q_6 q_757 rfl rfl rfl (by decide +kernel) ⟨by decide, by decide⟩ rfl hl.1 (Nat.le_of_ble_eq_true rfl) d_Mod_asks_23 ⟨by decide, by decide⟩) (fun H locs hd => ?_)
  refine lv_if_ne (tgt := 40) hx hb d_Mod_asks_26 (by decide) (fun _ => ?_) (fun c => absurd c (by decide))
  refine lv_iconst (v := (-1)) hx hb d_Mod_asks_40 (by decide) ?_
  exact zfi hC hd hr hlk d_Mod_asks_41 rfl rfl
set_option maxHeartbeats 4000000 in
theorem c_Mod_asks_no4 (l : Launch) (G : Gt) (ad : Nat → Nat → Nat) (ow : Nat → Nat × Nat) (Z : Zt) (hm : ML Z) (hn : xn Z 20 0 ≤ 40) (k : Nat) (q : Int32) (hk : k < 40) (h0 : m_isKey Z (nI k) = 1) (h1 : m_isKey Z q = 1) (h2 : m_isLeaf Z (nI k) = 0) (h3 : xn Z 504 k = 8) : Met l y_Mod_asks w_Mod_asks ({ frames := 2, cells := 0, slots := 0, locals := 46 }) (zPc G ad ow Z [.ref (ad 10 0), .int (nI k), .int q]) (Qd G ad ow (m0 Z) (some (.int (-1)))) 0 0 (zA G) := by
  refine zopen (cc := b_Mod_asks) (maxL := 4) (ret := (some FieldType.int)) (by decide) rfl (Nat.le_of_ble_eq_true rfl) ?_
  intro p e s m below meth c ls hC hr hlk hnm hd hl
  have hC : Cx G p c m s _ "KeyGraphModel" b_Mod_asks 4 := hC
  have hl : lv_has ls 4 [(0, .ref (ad 10 0)), (1, .int (nI k)), (2, .int q)] := hl
  have hx := hC.1
  have hb := hC.2.1
  have h8 : xn Z 504 k ≤ 8 := by omega
  refine lv_aload_n hx hb d_Mod_asks_0 rfl (lv_at hl 0 rfl) ?_
  refine lv_iconst (v := 0) hx hb d_Mod_asks_1 (by decide) ?_
  refine zput (Z' := (si Z 20 0 0)) hC hd (e_mod hm.1) rfl i_Mod t_Mod t_Mod_ok n_Mod 0 (by decide) q_653 (Or.inl rfl) rfl rfl rfl (Nat.le_of_ble_eq_true rfl) (u_mcode hm.1) d_Mod_asks_2 (fun H locs hd => ?_)
  refine lv_aload_n hx hb d_Mod_asks_5 rfl (lv_at hl 0 rfl) ?_
  refine lv_iload_n hx hb d_Mod_asks_6 rfl (lv_at hl 1 rfl) ?_
  refine zb_i (r := 1) hd (zrunV (n := 1) (rest := []) hC hd (e_mod hm.1) rfl (c_Mod_isKey_r l G ad ow (si Z 20 0 0) hm (nI k) 1 h0) q_750 q_752 qp_18 q_6 q_753 rfl rfl rfl (by decide +kernel) ⟨by decide, by decide⟩ rfl hl.1 (Nat.le_of_ble_eq_true rfl) d_Mod_asks_7 ⟨by decide, by decide⟩) (fun H locs hd => ?_)
  refine lv_if_eq (tgt := 40) hx hb d_Mod_asks_10 (by decide) (fun c => absurd c (by decide)) (fun _ => ?_)
  refine lv_aload_n hx hb d_Mod_asks_13 rfl (lv_at hl 0 rfl) ?_
  refine lv_iload_n hx hb d_Mod_asks_14 rfl (lv_at hl 2 rfl) ?_
  refine zb_i (r := 1) hd (zrunV (n := 1) (rest := []) hC hd (e_mod hm.1) rfl (c_Mod_isKey_r l G ad ow (si Z 20 0 0) hm q 1 h1) q_750 q_752 qp_18 q_6 q_753 rfl rfl rfl (by decide +kernel) ⟨by decide, by decide⟩ rfl hl.1 (Nat.le_of_ble_eq_true rfl) d_Mod_asks_15 ⟨by decide, by decide⟩) (fun H locs hd => ?_)
  refine lv_if_eq (tgt := 40) hx hb d_Mod_asks_18 (by decide) (fun c => absurd c (by decide)) (fun _ => ?_)
  refine lv_aload_n hx hb d_Mod_asks_21 rfl (lv_at hl 0 rfl) ?_
  refine lv_iload_n hx hb d_Mod_asks_22 rfl (lv_at hl 1 rfl) ?_
  refine zb_i (r := 0) hd (zrunV (n := 1) (rest := []) hC hd (e_mod hm.1) rfl (c_Mod_isLeaf_r l G ad ow (si Z 20 0 0) hm hn (nI k) 0 h2) q_754 q_756 qp_19 q_6 q_757 rfl rfl rfl (by decide +kernel) ⟨by decide, by decide⟩ rfl hl.1 (Nat.le_of_ble_eq_true rfl) d_Mod_asks_23 ⟨by decide, by decide⟩) (fun H locs hd => ?_)
  refine lv_if_ne (tgt := 40) hx hb d_Mod_asks_26 (by decide) (fun c => absurd c (by decide)) (fun _ => ?_)
  refine lv_aload_n hx hb d_Mod_asks_29 rfl (lv_at hl 0 rfl) ?_
  refine zget hC hd (e_mod hm.1) rfl i_Mod 4 (by decide) q_657 (Or.inl rfl) (v := .ref (ad 11 4)) rfl d_Mod_asks_30 ?_
  refine lv_iload_n hx hb d_Mod_asks_33 rfl (lv_at hl 1 rfl) ?_
  refine ziaN (k := k) (f := xn Z 504) hC hd (e_m4 hm.2) (by omega) (by decide) d_Mod_asks_34 ?_
  refine lv_bipush (v := 8) hx hb d_Mod_asks_35 (by decide) ?_
  refine zc_ne (x := xn Z 504 k) (y := 8) (tgt := 42) (by omega) (by omega) hx hb d_Mod_asks_37 (by decide) (fun c37 => absurd h3 c37) (fun c37 => ?_)
  refine lv_iconst (v := (-1)) hx hb d_Mod_asks_40 (by decide) ?_
  exact zfi hC hd hr hlk d_Mod_asks_41 rfl rfl
theorem MI.ring1 {Z : Zt} (hI : MI Z) {h : Nat} (hh : h < 40) : MI (sn (sn Z 522 0 h) 21 0 1) := by
  obtain ⟨a1, a2, a3, a4, a5, a6, a7, a8, a9, a10, a11⟩ := hI
  refine ⟨a1, a2, a3, a4, a5, a6, a7, a8, a9, ?_, ?_⟩
  · show 1 ≤ 40
    omega
  · intro j
    show xn (sn Z 522 0 h) 522 j < 40
    rw [xn_sn]
    split
    · exact hh
    · exact a11 j
set_option maxHeartbeats 4000000 in
theorem c_Mod_asks_ring (l : Launch) (G : Gt) (ad : Nat → Nat → Nat) (ow : Nat → Nat × Nat) (Z : Zt) (hm : ML Z) (hI : MI Z) (k q : Nat) (hk : k < 40) (hq : q < 40) (h0 : m_isKey Z (nI k) = 1) (h1 : m_isKey Z (nI q) = 1) (h2 : m_isLeaf Z (nI k) = 0) (h3 : ¬ xn Z 504 k = 8) (N : Nat) (Z9 : Zt) (hw : m_flW N (m_fl0 k (m0 Z) 0 (xn Z 20 0)) 1 Z9) (h5 : ¬ xi Z9 524 q = 0) (M : Nat) (Z8 : Zt) (hrg : m_rg k M (sn (sn Z9 522 0 k) 21 0 1) q Z8) : Met l y_Mod_asks w_Mod_asks ({ frames := 2, cells := 0, slots := 0, locals := 46 }) (zPc G ad ow Z [.ref (ad 10 0), .int (nI k), .int (nI q)]) (Qd G ad ow Z8 (some (.int (-2)))) 0 0 (zA G) := by
  refine zopen (cc := b_Mod_asks) (maxL := 4) (ret := (some FieldType.int)) (by decide) rfl (Nat.le_of_ble_eq_true rfl) ?_
  intro p e s m below meth c ls hC hr hlk hnm hd hl
  have hC : Cx G p c m s _ "KeyGraphModel" b_Mod_asks 4 := hC
  have hl : lv_has ls 4 [(0, .ref (ad 10 0)), (1, .int (nI k)), (2, .int (nI q))] := hl
  have hx := hC.1
  have hb := hC.2.1
  have h8 := hI.2.1 k
  have hn := hI.1
  refine lv_aload_n hx hb d_Mod_asks_0 rfl (lv_at hl 0 rfl) ?_
  refine lv_iconst (v := 0) hx hb d_Mod_asks_1 (by decide) ?_
  refine zput (Z' := (si Z 20 0 0)) hC hd (e_mod hm.1) rfl i_Mod t_Mod t_Mod_ok n_Mod 0 (by decide) q_653 (Or.inl rfl) rfl rfl rfl (Nat.le_of_ble_eq_true rfl) (u_mcode hm.1) d_Mod_asks_2 (fun H locs hd => ?_)
  refine lv_aload_n hx hb d_Mod_asks_5 rfl (lv_at hl 0 rfl) ?_
  refine lv_iload_n hx hb d_Mod_asks_6 rfl (lv_at hl 1 rfl) ?_
  refine zb_i (r := 1) hd (zrunV (n := 1) (rest := []) hC hd (e_mod hm.1) rfl (c_Mod_isKey_r l G ad ow (si Z 20 0 0) hm (nI k) 1 h0) q_750 q_752 qp_18 q_6 q_753 rfl rfl rfl (by decide +kernel) ⟨by decide, by decide⟩ rfl hl.1 (Nat.le_of_ble_eq_true rfl) d_Mod_asks_7 ⟨by decide, by decide⟩) (fun H locs hd => ?_)
  refine lv_if_eq (tgt := 40) hx hb d_Mod_asks_10 (by decide) (fun c => absurd c (by decide)) (fun _ => ?_)
  refine lv_aload_n hx hb d_Mod_asks_13 rfl (lv_at hl 0 rfl) ?_
  refine lv_iload_n hx hb d_Mod_asks_14 rfl (lv_at hl 2 rfl) ?_
  refine zb_i (r := 1) hd (zrunV (n := 1) (rest := []) hC hd (e_mod hm.1) rfl (c_Mod_isKey_r l G ad ow (si Z 20 0 0) hm (nI q) 1 h1) q_750 q_752 qp_18 q_6 q_753 rfl rfl rfl (by decide +kernel) ⟨by decide, by decide⟩ rfl hl.1 (Nat.le_of_ble_eq_true rfl) d_Mod_asks_15 ⟨by decide, by decide⟩) (fun H locs hd => ?_)
  refine lv_if_eq (tgt := 40) hx hb d_Mod_asks_18 (by decide) (fun c => absurd c (by decide)) (fun _ => ?_)
  refine lv_aload_n hx hb d_Mod_asks_21 rfl (lv_at hl 0 rfl) ?_
  refine lv_iload_n hx hb d_Mod_asks_22 rfl (lv_at hl 1 rfl) ?_
  refine zb_i (r := 0) hd (zrunV (n := 1) (rest := []) hC hd (e_mod hm.1) rfl (c_Mod_isLeaf_r l G ad ow (si Z 20 0 0) hm hn (nI k) 0 h2) q_754 q_756 qp_19 q_6 q_757 rfl rfl rfl (by decide +kernel) ⟨by decide, by decide⟩ rfl hl.1 (Nat.le_of_ble_eq_true rfl) d_Mod_asks_23 ⟨by decide, by decide⟩) (fun H locs hd => ?_)
  refine lv_if_ne (tgt := 40) hx hb d_Mod_asks_26 (by decide) (fun c => absurd c (by decide)) (fun _ => ?_)
  refine lv_aload_n hx hb d_Mod_asks_29 rfl (lv_at hl 0 rfl) ?_
  refine zget hC hd (e_mod hm.1) rfl i_Mod 4 (by decide) q_657 (Or.inl rfl) (v := .ref (ad 11 4)) rfl d_Mod_asks_30 ?_
  refine lv_iload_n hx hb d_Mod_asks_33 rfl (lv_at hl 1 rfl) ?_
  refine ziaN (k := k) (f := xn Z 504) hC hd (e_m4 hm.2) (by omega) (by decide) d_Mod_asks_34 ?_
  refine lv_bipush (v := 8) hx hb d_Mod_asks_35 (by decide) ?_
  refine zc_ne (x := xn Z 504 k) (y := 8) (tgt := 42) (by omega) (by omega) hx hb d_Mod_asks_37 (by decide) (fun c37 => ?_) (fun c37 => absurd c37 h3)
  refine lv_aload_n hx hb d_Mod_asks_42 rfl (lv_at hl 0 rfl) ?_
  refine lv_iload_n hx hb d_Mod_asks_43 rfl (lv_at hl 1 rfl) ?_
  refine zb_v hd (zrunV (n := 1) (rest := []) hC hd (e_mod hm.1) rfl (c_Mod_fillLeads l G ad ow (si Z 20 0 0) hm (show MI (m0 Z) from hI) k (by omega) N Z9 hw) q_758 q_760 qp_20 q_6 q_761 rfl rfl rfl (by decide +kernel) ⟨by decide, by decide⟩ rfl hl.1 (Nat.le_of_ble_eq_true rfl) d_Mod_asks_44 ⟨by decide, by decide⟩) (fun H locs hd => ?_)
  have hL := m_flW_LD _ _ _ _ hw
  have hL : LD (m0 Z) Z9 := (m_fl0_LD _ _ _ _).trans hL
  have hm9 : ML Z9 := hL.toML (show ML (m0 Z) from hm)
  have hI9 : MI Z9 := hL.toMI (show MI (m0 Z) from hI)
  refine lv_aload_n hx hb d_Mod_asks_47 rfl (lv_at hl 0 rfl) ?_
  refine zget hC hd (e_mod hm9.1) rfl i_Mod 24 (by decide) q_677 (Or.inl rfl) (v := .ref (ad 11 24)) rfl d_Mod_asks_48 ?_
  refine lv_iload_n hx hb d_Mod_asks_51 rfl (lv_at hl 2 rfl) ?_
  refine zzaI (k := q) (f := xi Z9 524) hC hd (e_m24 hm9.2) (by omega) (by decide) d_Mod_asks_52 ?_
  refine lv_if_eq (tgt := 107) hx hb d_Mod_asks_53 (by decide) (fun c53 => absurd c53 h5) (fun c53 => ?_)
  refine lv_aload_n hx hb d_Mod_asks_56 rfl (lv_at hl 0 rfl) ?_
  refine zget hC hd (e_mod hm9.1) rfl i_Mod 22 (by decide) q_675 (Or.inl rfl) (v := .ref (ad 11 22)) rfl d_Mod_asks_57 ?_
  refine lv_iconst (v := 0) hx hb d_Mod_asks_60 (by decide) ?_
  refine lv_iload_n hx hb d_Mod_asks_61 rfl (lv_at hl 1 rfl) ?_
  refine ziaS (k := 0) (Z' := (sn Z9 522 0 k)) hC hd (e_m22 hm9.2) (by omega) (by decide) (u_m22 hm9.2) d_Mod_asks_62 (fun H locs hd => ?_)
  refine lv_aload_n hx hb d_Mod_asks_63 rfl (lv_at hl 0 rfl) ?_
  refine lv_iconst (v := 1) hx hb d_Mod_asks_64 (by decide) ?_
  refine zput (Z' := (sn (sn Z9 522 0 k) 21 0 1)) hC hd (e_mod hm9.1) rfl i_Mod t_Mod t_Mod_ok n_Mod 23 (by decide) q_676 (Or.inl rfl) rfl rfl rfl (Nat.le_of_ble_eq_true rfl) (u_mringN hm9.1) d_Mod_asks_65 (fun H locs hd => ?_)
  refine lv_iload_n hx hb d_Mod_asks_68 rfl (lv_at hl 2 rfl) ?_
  refine lv_istore_n (lv' := [(3, .int (nI q)), (0, .ref (ad 10 0)), (1, .int (nI k)), (2, .int (nI q))]) hx hb d_Mod_asks_69 rfl hl (by decide) rfl (fun ls hl => ?_)
  refine lp_Mod_asks k q hk Z8 hC M _ q ls H locs hrg hq hm9 (hI9.ring1 hk) hd (lv_sub hl [0, 1, 2, 3] rfl) (fun ls H locs hd => ?_)
  refine lv_bipush (v := (-2)) hx hb d_Mod_asks_104 (by decide) ?_
  exact zfi hC hd hr hlk d_Mod_asks_106 rfl rfl
set_option maxHeartbeats 4000000 in
theorem c_Mod_asks_yes (l : Launch) (G : Gt) (ad : Nat → Nat → Nat) (ow : Nat → Nat × Nat) (Z : Zt) (hm : ML Z) (hI : MI Z) (k q : Nat) (hk : k < 40) (hq : q < 40) (h0 : m_isKey Z (nI k) = 1) (h1 : m_isKey Z (nI q) = 1) (h2 : m_isLeaf Z (nI k) = 0) (h3 : ¬ xn Z 504 k = 8) (N : Nat) (Z9 : Zt) (hw : m_flW N (m_fl0 k (m0 Z) 0 (xn Z 20 0)) 1 Z9) (h5 : xi Z9 524 q = 0) : Met l y_Mod_asks w_Mod_asks ({ frames := 2, cells := 0, slots := 0, locals := 46 }) (zPc G ad ow Z [.ref (ad 10 0), .int (nI k), .int (nI q)]) (Qd G ad ow (m_asksY Z9 k q) (some (.int 1))) 0 0 (zA G) := by
  refine zopen (cc := b_Mod_asks) (maxL := 4) (ret := (some FieldType.int)) (by decide) rfl (Nat.le_of_ble_eq_true rfl) ?_
  intro p e s m below meth c ls hC hr hlk hnm hd hl
  have hC : Cx G p c m s _ "KeyGraphModel" b_Mod_asks 4 := hC
  have hl : lv_has ls 4 [(0, .ref (ad 10 0)), (1, .int (nI k)), (2, .int (nI q))] := hl
  have hx := hC.1
  have hb := hC.2.1
  have h8 := hI.2.1 k
  have hn := hI.1
  refine lv_aload_n hx hb d_Mod_asks_0 rfl (lv_at hl 0 rfl) ?_
  refine lv_iconst (v := 0) hx hb d_Mod_asks_1 (by decide) ?_
  refine zput (Z' := (si Z 20 0 0)) hC hd (e_mod hm.1) rfl i_Mod t_Mod t_Mod_ok n_Mod 0 (by decide) q_653 (Or.inl rfl) rfl rfl rfl (Nat.le_of_ble_eq_true rfl) (u_mcode hm.1) d_Mod_asks_2 (fun H locs hd => ?_)
  refine lv_aload_n hx hb d_Mod_asks_5 rfl (lv_at hl 0 rfl) ?_
  refine lv_iload_n hx hb d_Mod_asks_6 rfl (lv_at hl 1 rfl) ?_
  refine zb_i (r := 1) hd (zrunV (n := 1) (rest := []) hC hd (e_mod hm.1) rfl (c_Mod_isKey_r l G ad ow (si Z 20 0 0) hm (nI k) 1 h0) q_750 q_752 qp_18 q_6 q_753 rfl rfl rfl (by decide +kernel) ⟨by decide, by decide⟩ rfl hl.1 (Nat.le_of_ble_eq_true rfl) d_Mod_asks_7 ⟨by decide, by decide⟩) (fun H locs hd => ?_)
  refine lv_if_eq (tgt := 40) hx hb d_Mod_asks_10 (by decide) (fun c => absurd c (by decide)) (fun _ => ?_)
  refine lv_aload_n hx hb d_Mod_asks_13 rfl (lv_at hl 0 rfl) ?_
  refine lv_iload_n hx hb d_Mod_asks_14 rfl (lv_at hl 2 rfl) ?_
  refine zb_i (r := 1) hd (zrunV (n := 1) (rest := []) hC hd (e_mod hm.1) rfl (c_Mod_isKey_r l G ad ow (si Z 20 0 0) hm (nI q) 1 h1) q_750 q_752 qp_18 q_6 q_753 rfl rfl rfl (by decide +kernel) ⟨by decide, by decide⟩ rfl hl.1 (Nat.le_of_ble_eq_true rfl) d_Mod_asks_15 ⟨by decide, by decide⟩) (fun H locs hd => ?_)
  refine lv_if_eq (tgt := 40) hx hb d_Mod_asks_18 (by decide) (fun c => absurd c (by decide)) (fun _ => ?_)
  refine lv_aload_n hx hb d_Mod_asks_21 rfl (lv_at hl 0 rfl) ?_
  refine lv_iload_n hx hb d_Mod_asks_22 rfl (lv_at hl 1 rfl) ?_
  refine zb_i (r := 0) hd (zrunV (n := 1) (rest := []) hC hd (e_mod hm.1) rfl (c_Mod_isLeaf_r l G ad ow (si Z 20 0 0) hm hn (nI k) 0 h2) q_754 q_756 qp_19 q_6 q_757 rfl rfl rfl (by decide +kernel) ⟨by decide, by decide⟩ rfl hl.1 (Nat.le_of_ble_eq_true rfl) d_Mod_asks_23 ⟨by decide, by decide⟩) (fun H locs hd => ?_)
  refine lv_if_ne (tgt := 40) hx hb d_Mod_asks_26 (by decide) (fun c => absurd c (by decide)) (fun _ => ?_)
  refine lv_aload_n hx hb d_Mod_asks_29 rfl (lv_at hl 0 rfl) ?_
  refine zget hC hd (e_mod hm.1) rfl i_Mod 4 (by decide) q_657 (Or.inl rfl) (v := .ref (ad 11 4)) rfl d_Mod_asks_30 ?_
  refine lv_iload_n hx hb d_Mod_asks_33 rfl (lv_at hl 1 rfl) ?_
  refine ziaN (k := k) (f := xn Z 504) hC hd (e_m4 hm.2) (by omega) (by decide) d_Mod_asks_34 ?_
  refine lv_bipush (v := 8) hx hb d_Mod_asks_35 (by decide) ?_
  refine zc_ne (x := xn Z 504 k) (y := 8) (tgt := 42) (by omega) (by omega) hx hb d_Mod_asks_37 (by decide) (fun c37 => ?_) (fun c37 => absurd c37 h3)
  refine lv_aload_n hx hb d_Mod_asks_42 rfl (lv_at hl 0 rfl) ?_
  refine lv_iload_n hx hb d_Mod_asks_43 rfl (lv_at hl 1 rfl) ?_
  refine zb_v hd (zrunV (n := 1) (rest := []) hC hd (e_mod hm.1) rfl (c_Mod_fillLeads l G ad ow (si Z 20 0 0) hm (show MI (m0 Z) from hI) k (by omega) N Z9 hw) q_758 q_760 qp_20 q_6 q_761 rfl rfl rfl (by decide +kernel) ⟨by decide, by decide⟩ rfl hl.1 (Nat.le_of_ble_eq_true rfl) d_Mod_asks_44 ⟨by decide, by decide⟩) (fun H locs hd => ?_)
  have hL := m_flW_LD _ _ _ _ hw
  have hL : LD (m0 Z) Z9 := (m_fl0_LD _ _ _ _).trans hL
  have hm9 : ML Z9 := hL.toML (show ML (m0 Z) from hm)
  have hI9 : MI Z9 := hL.toMI (show MI (m0 Z) from hI)
  refine lv_aload_n hx hb d_Mod_asks_47 rfl (lv_at hl 0 rfl) ?_
  refine zget hC hd (e_mod hm9.1) rfl i_Mod 24 (by decide) q_677 (Or.inl rfl) (v := .ref (ad 11 24)) rfl d_Mod_asks_48 ?_
  refine lv_iload_n hx hb d_Mod_asks_51 rfl (lv_at hl 2 rfl) ?_
  refine zzaI (k := q) (f := xi Z9 524) hC hd (e_m24 hm9.2) (by omega) (by decide) d_Mod_asks_52 ?_
  refine lv_if_eq (tgt := 107) hx hb d_Mod_asks_53 (by decide) (fun c53 => ?_) (fun c53 => absurd h5 c53)
  have e5 : xn Z9 504 k = xn Z 504 k := hL.gn 504 k
  have h37 : xn Z9 504 k < 8 := by omega
  refine lv_aload_n hx hb d_Mod_asks_107 rfl (lv_at hl 0 rfl) ?_
  refine zget hC hd (e_mod hm9.1) rfl i_Mod 5 (by decide) q_658 (Or.inl rfl) (v := .ref (ad 11 5)) rfl d_Mod_asks_108 ?_
  refine lv_bipush (v := 8) hx hb d_Mod_asks_111 (by decide) ?_
  refine lv_iload_n hx hb d_Mod_asks_113 rfl (lv_at hl 1 rfl) ?_
  refine zmulN (x := 8) (y := k) hx hb d_Mod_asks_114 ?_
  refine lv_aload_n hx hb d_Mod_asks_115 rfl (lv_at hl 0 rfl) ?_
  refine zget hC hd (e_mod hm9.1) rfl i_Mod 4 (by decide) q_657 (Or.inl rfl) (v := .ref (ad 11 4)) rfl d_Mod_asks_116 ?_
  refine lv_iload_n hx hb d_Mod_asks_119 rfl (lv_at hl 1 rfl) ?_
  refine ziaN (k := k) (f := xn Z9 504) hC hd (e_m4 hm9.2) (by omega) (by decide) d_Mod_asks_120 ?_
  refine zaddN (x := 8 * k) (y := xn Z9 504 k) hx hb d_Mod_asks_121 ?_
  refine lv_iload_n hx hb d_Mod_asks_122 rfl (lv_at hl 2 rfl) ?_
  refine ziaS (k := (8 * k) + (xn Z9 504 k)) (Z' := (sn Z9 505 ((8 * k) + (xn Z9 504 k)) q)) hC hd (e_m5 hm9.2) (by omega) (by decide) (u_m5 hm9.2) d_Mod_asks_123 (fun H locs hd => ?_)
  refine lv_aload_n hx hb d_Mod_asks_124 rfl (lv_at hl 0 rfl) ?_
  refine zget hC hd (e_mod hm9.1) rfl i_Mod 4 (by decide) q_657 (Or.inl rfl) (v := .ref (ad 11 4)) rfl d_Mod_asks_125 ?_
  refine lv_iload_n hx hb d_Mod_asks_128 rfl (lv_at hl 1 rfl) ?_
  refine lv_dup2_11 hx hb d_Mod_asks_129 rfl rfl ?_
  refine ziaN (k := k) (f := xn Z9 504) hC hd (e_m4 hm9.2) (by omega) (by decide) d_Mod_asks_130 ?_
  refine lv_iconst (v := 1) hx hb d_Mod_asks_131 (by decide) ?_
  refine zaddN (x := xn Z9 504 k) (y := 1) hx hb d_Mod_asks_132 ?_
  refine ziaS (k := k) (Z' := (sn (sn Z9 505 ((8 * k) + (xn Z9 504 k)) q) 504 k ((xn Z9 504 k) + 1))) hC hd (e_m4 hm9.2) (by omega) (by decide) (u_m4 hm9.2) d_Mod_asks_133 (fun H locs hd => ?_)
  refine lv_aload_n hx hb d_Mod_asks_134 rfl (lv_at hl 0 rfl) ?_
  refine zget hC hd (e_mod hm9.1) rfl i_Mod 9 (by decide) q_662 (Or.inl rfl) (v := .ref (ad 11 9)) rfl d_Mod_asks_135 ?_
  refine lv_iload_n hx hb d_Mod_asks_138 rfl (lv_at hl 1 rfl) ?_
  refine lv_aload_n hx hb d_Mod_asks_139 rfl (lv_at hl 0 rfl) ?_
  refine zb_i (r := (xi Z9 21 0 + 1)) hd (zrunV (n := 0) (rest := [.int (nI k), .ref (ad 11 9)]) hC hd (e_mod hm9.1) rfl (c_Mod_next l G ad ow (sn (sn Z9 505 ((8 * k) + (xn Z9 504 k)) q) 504 k ((xn Z9 504 k) + 1)) hm9) q_770 q_772 qp_23 q_6 q_773 rfl rfl rfl (by decide +kernel) ⟨by decide, by decide⟩ rfl hl.1 (Nat.le_of_ble_eq_true rfl) d_Mod_asks_140 ⟨by decide, by decide⟩) (fun H locs hd => ?_)
  refine ziaS (k := k) (Z' := (si (m_next (sn (sn Z9 505 ((8 * k) + (xn Z9 504 k)) q) 504 k ((xn Z9 504 k) + 1))) 509 k (xi Z9 21 0 + 1))) hC hd (e_m9 hm9.2) (by omega) (by decide) (u_m9 hm9.2) d_Mod_asks_143 (fun H locs hd => ?_)
  refine lv_iconst (v := 1) hx hb d_Mod_asks_144 (by decide) ?_
  exact zfi hC hd hr hlk d_Mod_asks_145 rfl rfl
