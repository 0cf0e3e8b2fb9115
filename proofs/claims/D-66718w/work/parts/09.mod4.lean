def m_check (Z : Zt) (u i0 : Nat) : Zt × Int32 := if xn Z 519 i0 = xn Z 510 (xn Z 518 i0) then (sn (si (si Z 507 (xn Z 518 i0) (xi Z 21 0)) 513 (xn Z 518 i0) (xi Z 513 (xn Z 518 i0) + 1)) 517 u (xn Z 517 u - 1), 2) else if m_isSure Z (xn Z 505 (8 * xn Z 518 i0 + xn Z 511 (8 * xn Z 518 i0 + xn Z 519 i0))) = 0 then m_await Z u (xn Z 505 (8 * xn Z 518 i0 + xn Z 511 (8 * xn Z 518 i0 + xn Z 519 i0))) else if xi Z 508 (xn Z 505 (8 * xn Z 518 i0 + xn Z 511 (8 * xn Z 518 i0 + xn Z 519 i0))) ≤ xi Z 507 (xn Z 518 i0) then (sn Z 519 i0 (xn Z 519 i0 + 1), 4) else (sn (si Z 521 i0 1) 519 i0 0, 5)
def m_goW (Z : Zt) (u i0 j : Nat) : Zt × Int32 := if m_isSure Z (xn Z 505 (8 * xn Z 518 i0 + j)) = 0 then m_await Z u (xn Z 505 (8 * xn Z 518 i0 + j)) else if xi Z 506 (xn Z 505 (8 * xn Z 518 i0 + j)) = 1 then (sn (sn Z 520 (8 * i0 + xn Z 519 i0) j) 519 i0 (xn Z 519 i0 + 1), 6) else (m_end (sn (sn Z 520 (8 * i0 + xn Z 519 i0) j) 519 i0 (xn Z 519 i0 + 1)) u 3 0, 2)
def m_go1 (Z : Zt) (u i0 : Nat) : Zt × Int32 := if xi Z 521 i0 = 0 then m_check Z u i0 else if m_comes Z i0 = -2 then (m_end Z u 2 0, 2) else if m_comes Z i0 = -1 then (m_end Z u 1 (m_outcome Z i0), 2) else m_goW Z u i0 (m_comes Z i0).toNatClampNeg
def m_go (Z : Zt) (u : Nat) : Zt × Int32 := if xn Z 517 u = 0 then (Z, 0) else m_go1 Z u (40 * u + xn Z 517 u - 1)
/-- what a step of the model needs, beside the bounds: a place for one more key if it isn't on a pile; no division by zero -/
def GoOk (Z : Zt) (u : Nat) : Prop := (∀ k, k < 40 → m_pileOf Z k = -1 → xn Z 517 u < 40) ∧ (xi Z 503 (xn Z 518 (40 * u + xn Z 517 u - 1)) = 3 → ∀ j, 1 ≤ j → j < xn Z 519 (40 * u + xn Z 517 u - 1) → m_comes Z (40 * u + xn Z 517 u - 1) = -1 → ¬ m_taken Z (40 * u + xn Z 517 u - 1) j = 0)

set_option maxHeartbeats 4000000 in
theorem lp_Mod_end {p : Program} {l : Launch} {e : Env} {s : State} {m : MethodId} {args : Array Value} {below : List Frame} {meth : Method} {c : Code} {Q : State → Prop} {G : Gt} {ad : Nat → Nat → Nat} {ow : Nat → Nat × Nat} (k i0 u : Nat) (sv what : Int32) (v : Int64) (N : Nat) (hk : k < 40) (hi0 : i0 < 200) (hN : N ≤ 8) (hC : Cx G p c m s args "KeyGraphModel" b_Mod_end 9) : ∀ (n i : Nat) (Z : Zt) (ls : Array Slot) (H : Heap) (locs : List Loc), i + n = N → ML Z → xn Z 519 i0 = N → Dy G ad ow Z s H locs → lv_has ls 9 [(8, .int (nI i)), (7, .int sv), (6, .int (nI k)), (5, .int (nI i0)), (0, .ref (ad 10 0)), (1, .int (nI u)), (2, .int what), (3, .long v)] → (∀ (ls : Array Slot) (H : Heap) (locs : List Loc), Dy G ad ow (m_copy k i0 Z i n) s H locs → lv_has ls 9 [(8, .int (nI N)), (7, .int sv), (6, .int (nI k)), (5, .int (nI i0)), (0, .ref (ad 10 0)), (1, .int (nI u)), (2, .int what), (3, .long v)] → W p l e ({ frames := 0, cells := 0, slots := 0, locals := 0 } : Room) s m args below meth c H locs 0 0 Q (F0 m 191 ls [])) → W p l e ({ frames := 0, cells := 0, slots := 0, locals := 0 } : Room) s m args below meth c H locs 0 0 Q (F0 m 147 ls []) := by
  have hx := hC.1
  have hb := hC.2.1
  intro n
  induction n with
  | zero =>
    intro i Z ls H locs hi hm hf hd hl kk
    refine lv_iload hx hb d_Mod_end_147 (lv_at hl 0 rfl) ?_
    refine lv_aload_n hx hb d_Mod_end_149 rfl (lv_at hl 4 rfl) ?_
    refine zget hC hd (e_mod hm.1) rfl i_Mod 19 (by decide) q_672 (Or.inl rfl) (v := .ref (ad 11 19)) rfl d_Mod_end_150 ?_
    refine lv_iload hx hb d_Mod_end_153 (lv_at hl 3 rfl) ?_
    refine ziaN (k := i0) (f := xn Z 519) hC hd (e_m19 hm.2) (by omega) (by decide) d_Mod_end_155 ?_
    refine zc_ge (x := i) (y := xn Z 519 i0) (tgt := 191) (by omega) (by omega) hx hb d_Mod_end_156 (by decide) (fun c156 => ?_) (fun c156 => absurd hi (by omega))
    obtain rfl : i = N := by omega
    exact kk ls H locs hd hl
  | succ n ih =>
    intro i Z ls H locs hi hm hf hd hl kk
    refine lv_iload hx hb d_Mod_end_147 (lv_at hl 0 rfl) ?_
    refine lv_aload_n hx hb d_Mod_end_149 rfl (lv_at hl 4 rfl) ?_
    refine zget hC hd (e_mod hm.1) rfl i_Mod 19 (by decide) q_672 (Or.inl rfl) (v := .ref (ad 11 19)) rfl d_Mod_end_150 ?_
    refine lv_iload hx hb d_Mod_end_153 (lv_at hl 3 rfl) ?_
    refine ziaN (k := i0) (f := xn Z 519) hC hd (e_m19 hm.2) (by omega) (by decide) d_Mod_end_155 ?_
    refine zc_ge (x := i) (y := xn Z 519 i0) (tgt := 191) (by omega) (by omega) hx hb d_Mod_end_156 (by decide) (fun c156 => absurd hi (by omega)) (fun c156 => ?_)
    refine lv_aload_n hx hb d_Mod_end_159 rfl (lv_at hl 4 rfl) ?_
    refine zget hC hd (e_mod hm.1) rfl i_Mod 11 (by decide) q_664 (Or.inl rfl) (v := .ref (ad 11 11)) rfl d_Mod_end_160 ?_
    refine lv_bipush (v := 8) hx hb d_Mod_end_163 (by decide) ?_
    refine lv_iload hx hb d_Mod_end_165 (lv_at hl 2 rfl) ?_
    refine zmulN (x := 8) (y := k) hx hb d_Mod_end_167 ?_
    refine lv_iload hx hb d_Mod_end_168 (lv_at hl 0 rfl) ?_
    refine zaddN (x := 8 * k) (y := i) hx hb d_Mod_end_170 ?_
    refine lv_aload_n hx hb d_Mod_end_171 rfl (lv_at hl 4 rfl) ?_
    refine zget hC hd (e_mod hm.1) rfl i_Mod 20 (by decide) q_673 (Or.inl rfl) (v := .ref (ad 11 20)) rfl d_Mod_end_172 ?_
    refine lv_bipush (v := 8) hx hb d_Mod_end_175 (by decide) ?_
    refine lv_iload hx hb d_Mod_end_177 (lv_at hl 3 rfl) ?_
    refine zmulN (x := 8) (y := i0) hx hb d_Mod_end_179 ?_
    refine lv_iload hx hb d_Mod_end_180 (lv_at hl 0 rfl) ?_
    refine zaddN (x := 8 * i0) (y := i) hx hb d_Mod_end_182 ?_
    refine ziaN (k := (8 * i0) + i) (f := xn Z 520) hC hd (e_m20 hm.2) (by omega) (by decide) d_Mod_end_183 ?_
    refine ziaS (k := (8 * k) + i) (Z' := (sn Z 511 ((8 * k) + i) (xn Z 520 ((8 * i0) + i)))) hC hd (e_m11 hm.2) (by omega) (by decide) (u_m11 hm.2) d_Mod_end_184 (fun H locs hd => ?_)
    refine lv_iinc (v := (nI (i + 1))) (lv' := [(8, .int (nI (i + 1))), (7, .int sv), (6, .int (nI k)), (5, .int (nI i0)), (0, .ref (ad 10 0)), (1, .int (nI u)), (2, .int what), (3, .long v)]) hx hb d_Mod_end_185 hl (k := 0) rfl (by rw [show Int32.ofInt 1 = nI 1 from by decide]; exact nI_add _ _) (by decide) rfl (fun ls hl => ?_)
    refine lv_goto (tgt := 147) hx hb d_Mod_end_188 (by decide) ?_
    exact ih (i + 1) (sn Z 511 ((8 * k) + i) (xn Z 520 ((8 * i0) + i))) ls H locs (by omega) hm hf hd (lv_sub hl [0, 1, 2, 3, 4, 5, 6, 7] rfl) kk
set_option maxHeartbeats 4000000 in
theorem c_Mod_end (l : Launch) (G : Gt) (ad : Nat → Nat → Nat) (ow : Nat → Nat × Nat) (Z : Zt) (hm : ML Z) (u : Nat) (hu : u < 5) (h1 : 1 ≤ xn Z 517 u) (h40 : xn Z 517 u ≤ 40) (hk : xn Z 518 (40 * u + xn Z 517 u - 1) < 40) (hf : xn Z 519 (40 * u + xn Z 517 u - 1) ≤ 8) (what : Int32) (v : Int64) : Met l y_Mod_end w_Mod_end ({ frames := 0, cells := 0, slots := 0, locals := 0 }) (zPc G ad ow Z [.ref (ad 10 0), .int (nI u), .int what, .long v]) (Qd G ad ow (m_end Z u what v) (some (.int 2))) 0 0 (zA G) := by
  refine zopen (cc := b_Mod_end) (maxL := 9) (ret := (some FieldType.int)) (by decide) rfl (Nat.le_of_ble_eq_true rfl) ?_
  intro p e s m below meth c ls hC hr hlk hnm hd hl
  have hC : Cx G p c m s _ "KeyGraphModel" b_Mod_end 9 := hC
  have hl : lv_has ls 9 [(0, .ref (ad 10 0)), (1, .int (nI u)), (2, .int what), (3, .long v)] := hl
  have hx := hC.1
  have hb := hC.2.1
  have hE : 1 ≤ xn Z 517 u := by omega
  refine lv_bipush (v := 40) hx hb d_Mod_end_0 (by decide) ?_
  refine lv_iload_n hx hb d_Mod_end_2 rfl (lv_at hl 1 rfl) ?_
  refine zmulN (x := 40) (y := u) hx hb d_Mod_end_3 ?_
  refine lv_aload_n hx hb d_Mod_end_4 rfl (lv_at hl 0 rfl) ?_
  refine zget hC hd (e_mod hm.1) rfl i_Mod 17 (by decide) q_670 (Or.inl rfl) (v := .ref (ad 11 17)) rfl d_Mod_end_5 ?_
  refine lv_iload_n hx hb d_Mod_end_8 rfl (lv_at hl 1 rfl) ?_
  refine ziaN (k := u) (f := xn Z 517) hC hd (e_m17 hm.2) (by omega) (by decide) d_Mod_end_9 ?_
  refine zaddN (x := 40 * u) (y := xn Z 517 u) hx hb d_Mod_end_10 ?_
  refine lv_iconst (v := 1) hx hb d_Mod_end_11 (by decide) ?_
  refine zsubN (x := (40 * u) + (xn Z 517 u)) (y := 1) (by omega) hx hb d_Mod_end_12 ?_
  refine lv_istore (lv' := [(5, .int (nI (((40 * u) + (xn Z 517 u)) - 1))), (0, .ref (ad 10 0)), (1, .int (nI u)), (2, .int what), (3, .long v)]) hx hb d_Mod_end_13 hl (by decide) rfl (fun ls hl => ?_)
  refine lv_aload_n hx hb d_Mod_end_15 rfl (lv_at hl 1 rfl) ?_
  refine zget hC hd (e_mod hm.1) rfl i_Mod 18 (by decide) q_671 (Or.inl rfl) (v := .ref (ad 11 18)) rfl d_Mod_end_16 ?_
  refine lv_iload hx hb d_Mod_end_19 (lv_at hl 0 rfl) ?_
  refine ziaN (k := ((40 * u) + (xn Z 517 u)) - 1) (f := xn Z 518) hC hd (e_m18 hm.2) (by omega) (by decide) d_Mod_end_21 ?_
  refine lv_istore (lv' := [(6, .int (nI (xn Z 518 (((40 * u) + (xn Z 517 u)) - 1)))), (5, .int (nI (((40 * u) + (xn Z 517 u)) - 1))), (0, .ref (ad 10 0)), (1, .int (nI u)), (2, .int what), (3, .long v)]) hx hb d_Mod_end_22 hl (by decide) rfl (fun ls hl => ?_)
  refine lv_aload_n hx hb d_Mod_end_24 rfl (lv_at hl 2 rfl) ?_
  refine zget hC hd (e_mod hm.1) rfl i_Mod 16 (by decide) q_669 (Or.inl rfl) (v := .ref (ad 11 16)) rfl d_Mod_end_25 ?_
  refine lv_iload hx hb d_Mod_end_28 (lv_at hl 0 rfl) ?_
  refine zzaI (k := xn Z 518 (((40 * u) + (xn Z 517 u)) - 1)) (f := xi Z 516) hC hd (e_m16 hm.2) (by omega) (by decide) d_Mod_end_30 ?_
  refine lv_if_eq (tgt := 66) hx hb d_Mod_end_31 (by decide) (fun c31 => ?_) (fun c31 => ?_)
  · refine lv_iconst (v := 0) hx hb d_Mod_end_66 (by decide) ?_
    refine lv_istore (lv' := [(7, .int 0), (6, .int (nI (xn Z 518 (((40 * u) + (xn Z 517 u)) - 1)))), (5, .int (nI (((40 * u) + (xn Z 517 u)) - 1))), (0, .ref (ad 10 0)), (1, .int (nI u)), (2, .int what), (3, .long v)]) hx hb d_Mod_end_67 hl (by decide) rfl (fun ls hl => ?_)
    refine lv_aload_n hx hb d_Mod_end_69 rfl (lv_at hl 3 rfl) ?_
    refine zget hC hd (e_mod hm.1) rfl i_Mod 8 (by decide) q_661 (Or.inl rfl) (v := .ref (ad 11 8)) rfl d_Mod_end_70 ?_
    refine lv_iload hx hb d_Mod_end_73 (lv_at hl 1 rfl) ?_
    refine lv_iload hx hb d_Mod_end_75 (lv_at hl 0 rfl) ?_
    refine lv_if_eq (tgt := 90) hx hb d_Mod_end_77 (by decide) (fun _ => ?_) (fun c => absurd c (by decide))
    refine lv_aload_n hx hb d_Mod_end_90 rfl (lv_at hl 3 rfl) ?_
    refine zget hC hd (e_mod hm.1) rfl i_Mod 1 (by decide) q_654 (Or.inl rfl) (v := .int (xi Z 21 0)) rfl d_Mod_end_91 ?_
    refine ziaS (k := xn Z 518 (((40 * u) + (xn Z 517 u)) - 1)) (Z' := (si Z 508 (xn Z 518 (((40 * u) + (xn Z 517 u)) - 1)) (xi Z 21 0))) hC hd (e_m8 hm.2) (by omega) (by decide) (u_m8 hm.2) d_Mod_end_94 (fun H locs hd => ?_)
    refine lv_aload_n hx hb d_Mod_end_95 rfl (lv_at hl 3 rfl) ?_
    refine zget hC hd (e_mod hm.1) rfl i_Mod 6 (by decide) q_659 (Or.inl rfl) (v := .ref (ad 11 6)) rfl d_Mod_end_96 ?_
    refine lv_iload hx hb d_Mod_end_99 (lv_at hl 1 rfl) ?_
    refine lv_iload_n hx hb d_Mod_end_101 rfl (lv_at hl 5 rfl) ?_
    refine ziaS (k := xn Z 518 (((40 * u) + (xn Z 517 u)) - 1)) (Z' := (si (si Z 508 (xn Z 518 (((40 * u) + (xn Z 517 u)) - 1)) (xi Z 21 0)) 506 (xn Z 518 (((40 * u) + (xn Z 517 u)) - 1)) what)) hC hd (e_m6 hm.2) (by omega) (by decide) (u_m6 hm.2) d_Mod_end_102 (fun H locs hd => ?_)
    refine lv_aload_n hx hb d_Mod_end_103 rfl (lv_at hl 3 rfl) ?_
    refine zget hC hd (e_mod hm.1) rfl i_Mod 14 (by decide) q_667 (Or.inl rfl) (v := .ref (ad 11 14)) rfl d_Mod_end_104 ?_
    refine lv_iload hx hb d_Mod_end_107 (lv_at hl 1 rfl) ?_
    refine lv_lload_n hx hb d_Mod_end_109 rfl (lv_at hl 6 rfl) ?_
    refine zlaS (k := xn Z 518 (((40 * u) + (xn Z 517 u)) - 1)) (Z' := (sl (si (si Z 508 (xn Z 518 (((40 * u) + (xn Z 517 u)) - 1)) (xi Z 21 0)) 506 (xn Z 518 (((40 * u) + (xn Z 517 u)) - 1)) what) 514 (xn Z 518 (((40 * u) + (xn Z 517 u)) - 1)) v)) hC hd (e_m14 hm.2) (by omega) (by decide) (u_m14 hm.2) d_Mod_end_110 (fun H locs hd => ?_)
    refine lv_aload_n hx hb d_Mod_end_111 rfl (lv_at hl 3 rfl) ?_
    refine zget hC hd (e_mod hm.1) rfl i_Mod 16 (by decide) q_669 (Or.inl rfl) (v := .ref (ad 11 16)) rfl d_Mod_end_112 ?_
    refine lv_iload hx hb d_Mod_end_115 (lv_at hl 1 rfl) ?_
    refine lv_iconst (v := 1) hx hb d_Mod_end_117 (by decide) ?_
    refine zzaS (y := 1) (k := xn Z 518 (((40 * u) + (xn Z 517 u)) - 1)) (Z' := (si (sl (si (si Z 508 (xn Z 518 (((40 * u) + (xn Z 517 u)) - 1)) (xi Z 21 0)) 506 (xn Z 518 (((40 * u) + (xn Z 517 u)) - 1)) what) 514 (xn Z 518 (((40 * u) + (xn Z 517 u)) - 1)) v) 516 (xn Z 518 (((40 * u) + (xn Z 517 u)) - 1)) 1)) hC hd (by decide) (e_m16 hm.2) (by omega) (by decide) (u_m16 hm.2) d_Mod_end_118 (fun H locs hd => ?_)
    refine lv_aload_n hx hb d_Mod_end_119 rfl (lv_at hl 3 rfl) ?_
    refine zget hC hd (e_mod hm.1) rfl i_Mod 7 (by decide) q_660 (Or.inl rfl) (v := .ref (ad 11 7)) rfl d_Mod_end_120 ?_
    refine lv_iload hx hb d_Mod_end_123 (lv_at hl 1 rfl) ?_
    refine lv_aload_n hx hb d_Mod_end_125 rfl (lv_at hl 3 rfl) ?_
    refine zget hC hd (e_mod hm.1) rfl i_Mod 1 (by decide) q_654 (Or.inl rfl) (v := .int (xi Z 21 0)) rfl d_Mod_end_126 ?_
    refine ziaS (k := xn Z 518 (((40 * u) + (xn Z 517 u)) - 1)) (Z' := (si (si (sl (si (si Z 508 (xn Z 518 (((40 * u) + (xn Z 517 u)) - 1)) (xi Z 21 0)) 506 (xn Z 518 (((40 * u) + (xn Z 517 u)) - 1)) what) 514 (xn Z 518 (((40 * u) + (xn Z 517 u)) - 1)) v) 516 (xn Z 518 (((40 * u) + (xn Z 517 u)) - 1)) 1) 507 (xn Z 518 (((40 * u) + (xn Z 517 u)) - 1)) (xi Z 21 0))) hC hd (e_m7 hm.2) (by omega) (by decide) (u_m7 hm.2) d_Mod_end_129 (fun H locs hd => ?_)
    refine lv_aload_n hx hb d_Mod_end_130 rfl (lv_at hl 3 rfl) ?_
    refine zget hC hd (e_mod hm.1) rfl i_Mod 10 (by decide) q_663 (Or.inl rfl) (v := .ref (ad 11 10)) rfl d_Mod_end_131 ?_
    refine lv_iload hx hb d_Mod_end_134 (lv_at hl 1 rfl) ?_
    refine lv_aload_n hx hb d_Mod_end_136 rfl (lv_at hl 3 rfl) ?_
    refine zget hC hd (e_mod hm.1) rfl i_Mod 19 (by decide) q_672 (Or.inl rfl) (v := .ref (ad 11 19)) rfl d_Mod_end_137 ?_
    refine lv_iload hx hb d_Mod_end_140 (lv_at hl 2 rfl) ?_
    refine ziaN (k := ((40 * u) + (xn Z 517 u)) - 1) (f := xn Z 519) hC hd (e_m19 hm.2) (by omega) (by decide) d_Mod_end_142 ?_
    refine ziaS (k := xn Z 518 (((40 * u) + (xn Z 517 u)) - 1)) (Z' := (sn (si (si (sl (si (si Z 508 (xn Z 518 (((40 * u) + (xn Z 517 u)) - 1)) (xi Z 21 0)) 506 (xn Z 518 (((40 * u) + (xn Z 517 u)) - 1)) what) 514 (xn Z 518 (((40 * u) + (xn Z 517 u)) - 1)) v) 516 (xn Z 518 (((40 * u) + (xn Z 517 u)) - 1)) 1) 507 (xn Z 518 (((40 * u) + (xn Z 517 u)) - 1)) (xi Z 21 0)) 510 (xn Z 518 (((40 * u) + (xn Z 517 u)) - 1)) (xn Z 519 (((40 * u) + (xn Z 517 u)) - 1)))) hC hd (e_m10 hm.2) (by omega) (by decide) (u_m10 hm.2) d_Mod_end_143 (fun H locs hd => ?_)
    refine lv_iconst (v := 0) hx hb d_Mod_end_144 (by decide) ?_
    refine lv_istore (lv' := [(8, .int 0), (7, .int 0), (6, .int (nI (xn Z 518 (((40 * u) + (xn Z 517 u)) - 1)))), (5, .int (nI (((40 * u) + (xn Z 517 u)) - 1))), (0, .ref (ad 10 0)), (1, .int (nI u)), (2, .int what), (3, .long v)]) hx hb d_Mod_end_145 hl (by decide) rfl (fun ls hl => ?_)
    have hsv : m_sameV Z (xn Z 518 (40 * u + xn Z 517 u - 1)) what v = 0 := by unfold m_sameV; (repeat (first | (rw [if_pos]; rotate_left; first | assumption | decide) | (rw [if_neg]; rotate_left; first | assumption | decide))) <;> (try rfl)
    have hz6 : (sn (si (si (sl (si (si Z 508 (xn Z 518 (((40 * u) + (xn Z 517 u)) - 1)) (xi Z 21 0)) 506 (xn Z 518 (((40 * u) + (xn Z 517 u)) - 1)) what) 514 (xn Z 518 (((40 * u) + (xn Z 517 u)) - 1)) v) 516 (xn Z 518 (((40 * u) + (xn Z 517 u)) - 1)) 1) 507 (xn Z 518 (((40 * u) + (xn Z 517 u)) - 1)) (xi Z 21 0)) 510 (xn Z 518 (((40 * u) + (xn Z 517 u)) - 1)) (xn Z 519 (((40 * u) + (xn Z 517 u)) - 1))) = m_endA Z (xn Z 518 (40 * u + xn Z 517 u - 1)) (40 * u + xn Z 517 u - 1) what v := by unfold m_endA; rw [hsv]; (repeat (first | (rw [if_pos]; rotate_left; first | assumption | decide) | (rw [if_neg]; rotate_left; first | assumption | decide))) <;> (try rfl)
    rw [hz6] at hd
    refine lp_Mod_end (xn Z 518 (40 * u + xn Z 517 u - 1)) (40 * u + xn Z 517 u - 1) u 0 what v (xn Z 519 (40 * u + xn Z 517 u - 1)) hk (by omega) hf hC (xn Z 519 (40 * u + xn Z 517 u - 1)) 0 (m_endA Z (xn Z 518 (40 * u + xn Z 517 u - 1)) (40 * u + xn Z 517 u - 1) what v) ls H locs (by omega) hm rfl hd (lv_sub hl [0, 1, 2, 3, 4, 5, 6, 7] rfl) (fun ls H locs hd hl => ?_)
    have hm2 : ML (m_copy (xn Z 518 (40 * u + xn Z 517 u - 1)) (40 * u + xn Z 517 u - 1) (m_endA Z (xn Z 518 (40 * u + xn Z 517 u - 1)) (40 * u + xn Z 517 u - 1) what v) 0 (xn Z 519 (40 * u + xn Z 517 u - 1))) := m_copy_ML (show ML (m_endA Z (xn Z 518 (40 * u + xn Z 517 u - 1)) (40 * u + xn Z 517 u - 1) what v) from hm)
    have hh2 : xn (m_copy (xn Z 518 (40 * u + xn Z 517 u - 1)) (40 * u + xn Z 517 u - 1) (m_endA Z (xn Z 518 (40 * u + xn Z 517 u - 1)) (40 * u + xn Z 517 u - 1) what v) 0 (xn Z 519 (40 * u + xn Z 517 u - 1))) 517 u = xn Z 517 u := m_copy_xn _ _ _ _ _ _ _ (by decide)
    refine lv_aload_n hx hb d_Mod_end_191 rfl (lv_at hl 4 rfl) ?_
    refine zget hC hd (e_mod hm2.1) rfl i_Mod 12 (by decide) q_665 (Or.inl rfl) (v := .ref (ad 11 12)) rfl d_Mod_end_192 ?_
    refine lv_iload hx hb d_Mod_end_195 (lv_at hl 2 rfl) ?_
    refine lv_dup2_11 hx hb d_Mod_end_197 rfl rfl ?_
    refine ziaI (k := xn Z 518 (40 * u + xn Z 517 u - 1)) (f := xi (m_copy (xn Z 518 (40 * u + xn Z 517 u - 1)) (40 * u + xn Z 517 u - 1) (m_endA Z (xn Z 518 (40 * u + xn Z 517 u - 1)) (40 * u + xn Z 517 u - 1) what v) 0 (xn Z 519 (40 * u + xn Z 517 u - 1))) 512) hC hd (e_m12 hm2.2) (by omega) (by decide) d_Mod_end_198 ?_
    refine lv_iconst (v := 1) hx hb d_Mod_end_199 (by decide) ?_
    refine lv_iadd hx hb d_Mod_end_200 ?_
    refine ziaS (k := xn Z 518 (40 * u + xn Z 517 u - 1)) (Z' := (si (m_copy (xn Z 518 (40 * u + xn Z 517 u - 1)) (40 * u + xn Z 517 u - 1) (m_endA Z (xn Z 518 (40 * u + xn Z 517 u - 1)) (40 * u + xn Z 517 u - 1) what v) 0 (xn Z 519 (40 * u + xn Z 517 u - 1))) 512 (xn Z 518 (40 * u + xn Z 517 u - 1)) ((xi (m_copy (xn Z 518 (40 * u + xn Z 517 u - 1)) (40 * u + xn Z 517 u - 1) (m_endA Z (xn Z 518 (40 * u + xn Z 517 u - 1)) (40 * u + xn Z 517 u - 1) what v) 0 (xn Z 519 (40 * u + xn Z 517 u - 1))) 512 (xn Z 518 (40 * u + xn Z 517 u - 1))) + 1))) hC hd (e_m12 hm2.2) (by omega) (by decide) (u_m12 hm2.2) d_Mod_end_201 (fun H locs hd => ?_)
    refine lv_aload_n hx hb d_Mod_end_202 rfl (lv_at hl 4 rfl) ?_
    refine zget hC hd (e_mod hm2.1) rfl i_Mod 17 (by decide) q_670 (Or.inl rfl) (v := .ref (ad 11 17)) rfl d_Mod_end_203 ?_
    refine lv_iload_n hx hb d_Mod_end_206 rfl (lv_at hl 5 rfl) ?_
    refine lv_dup2_11 hx hb d_Mod_end_207 rfl rfl ?_
    refine ziaN (k := u) (f := xn (m_copy (xn Z 518 (40 * u + xn Z 517 u - 1)) (40 * u + xn Z 517 u - 1) (m_endA Z (xn Z 518 (40 * u + xn Z 517 u - 1)) (40 * u + xn Z 517 u - 1) what v) 0 (xn Z 519 (40 * u + xn Z 517 u - 1))) 517) hC hd (e_m17 hm2.2) (by omega) (by decide) d_Mod_end_208 ?_
    refine lv_iconst (v := 1) hx hb d_Mod_end_209 (by decide) ?_
    refine zsubN (x := xn (m_copy (xn Z 518 (40 * u + xn Z 517 u - 1)) (40 * u + xn Z 517 u - 1) (m_endA Z (xn Z 518 (40 * u + xn Z 517 u - 1)) (40 * u + xn Z 517 u - 1) what v) 0 (xn Z 519 (40 * u + xn Z 517 u - 1))) 517 u) (y := 1) (by omega) hx hb d_Mod_end_210 ?_
    refine ziaS (k := u) (Z' := (sn (si (m_copy (xn Z 518 (40 * u + xn Z 517 u - 1)) (40 * u + xn Z 517 u - 1) (m_endA Z (xn Z 518 (40 * u + xn Z 517 u - 1)) (40 * u + xn Z 517 u - 1) what v) 0 (xn Z 519 (40 * u + xn Z 517 u - 1))) 512 (xn Z 518 (40 * u + xn Z 517 u - 1)) ((xi (m_copy (xn Z 518 (40 * u + xn Z 517 u - 1)) (40 * u + xn Z 517 u - 1) (m_endA Z (xn Z 518 (40 * u + xn Z 517 u - 1)) (40 * u + xn Z 517 u - 1) what v) 0 (xn Z 519 (40 * u + xn Z 517 u - 1))) 512 (xn Z 518 (40 * u + xn Z 517 u - 1))) + 1)) 517 u ((xn (m_copy (xn Z 518 (40 * u + xn Z 517 u - 1)) (40 * u + xn Z 517 u - 1) (m_endA Z (xn Z 518 (40 * u + xn Z 517 u - 1)) (40 * u + xn Z 517 u - 1) what v) 0 (xn Z 519 (40 * u + xn Z 517 u - 1))) 517 u) - 1))) hC hd (e_m17 hm2.2) (by omega) (by decide) (u_m17 hm2.2) d_Mod_end_211 (fun H locs hd => ?_)
    refine lv_iconst (v := 2) hx hb d_Mod_end_212 (by decide) ?_
    exact zfi hC hd hr hlk d_Mod_end_213 rfl rfl
  · refine lv_aload_n hx hb d_Mod_end_34 rfl (lv_at hl 2 rfl) ?_
    refine zget hC hd (e_mod hm.1) rfl i_Mod 6 (by decide) q_659 (Or.inl rfl) (v := .ref (ad 11 6)) rfl d_Mod_end_35 ?_
    refine lv_iload hx hb d_Mod_end_38 (lv_at hl 0 rfl) ?_
    refine ziaI (k := xn Z 518 (((40 * u) + (xn Z 517 u)) - 1)) (f := xi Z 506) hC hd (e_m6 hm.2) (by omega) (by decide) d_Mod_end_40 ?_
    refine lv_iload_n hx hb d_Mod_end_41 rfl (lv_at hl 4 rfl) ?_
    refine lv_icmp_ne (tgt := 66) hx hb d_Mod_end_42 (by decide) (fun c42 => ?_) (fun c42 => ?_)
    · refine lv_iconst (v := 0) hx hb d_Mod_end_66 (by decide) ?_
      refine lv_istore (lv' := [(7, .int 0), (6, .int (nI (xn Z 518 (((40 * u) + (xn Z 517 u)) - 1)))), (5, .int (nI (((40 * u) + (xn Z 517 u)) - 1))), (0, .ref (ad 10 0)), (1, .int (nI u)), (2, .int what), (3, .long v)]) hx hb d_Mod_end_67 hl (by decide) rfl (fun ls hl => ?_)
      refine lv_aload_n hx hb d_Mod_end_69 rfl (lv_at hl 3 rfl) ?_
      refine zget hC hd (e_mod hm.1) rfl i_Mod 8 (by decide) q_661 (Or.inl rfl) (v := .ref (ad 11 8)) rfl d_Mod_end_70 ?_
      refine lv_iload hx hb d_Mod_end_73 (lv_at hl 1 rfl) ?_
      refine lv_iload hx hb d_Mod_end_75 (lv_at hl 0 rfl) ?_
      refine lv_if_eq (tgt := 90) hx hb d_Mod_end_77 (by decide) (fun _ => ?_) (fun c => absurd c (by decide))
      refine lv_aload_n hx hb d_Mod_end_90 rfl (lv_at hl 3 rfl) ?_
      refine zget hC hd (e_mod hm.1) rfl i_Mod 1 (by decide) q_654 (Or.inl rfl) (v := .int (xi Z 21 0)) rfl d_Mod_end_91 ?_
      refine ziaS (k := xn Z 518 (((40 * u) + (xn Z 517 u)) - 1)) (Z' := (si Z 508 (xn Z 518 (((40 * u) + (xn Z 517 u)) - 1)) (xi Z 21 0))) hC hd (e_m8 hm.2) (by omega) (by decide) (u_m8 hm.2) d_Mod_end_94 (fun H locs hd => ?_)
      refine lv_aload_n hx hb d_Mod_end_95 rfl (lv_at hl 3 rfl) ?_
      refine zget hC hd (e_mod hm.1) rfl i_Mod 6 (by decide) q_659 (Or.inl rfl) (v := .ref (ad 11 6)) rfl d_Mod_end_96 ?_
      refine lv_iload hx hb d_Mod_end_99 (lv_at hl 1 rfl) ?_
      refine lv_iload_n hx hb d_Mod_end_101 rfl (lv_at hl 5 rfl) ?_
      refine ziaS (k := xn Z 518 (((40 * u) + (xn Z 517 u)) - 1)) (Z' := (si (si Z 508 (xn Z 518 (((40 * u) + (xn Z 517 u)) - 1)) (xi Z 21 0)) 506 (xn Z 518 (((40 * u) + (xn Z 517 u)) - 1)) what)) hC hd (e_m6 hm.2) (by omega) (by decide) (u_m6 hm.2) d_Mod_end_102 (fun H locs hd => ?_)
      refine lv_aload_n hx hb d_Mod_end_103 rfl (lv_at hl 3 rfl) ?_
      refine zget hC hd (e_mod hm.1) rfl i_Mod 14 (by decide) q_667 (Or.inl rfl) (v := .ref (ad 11 14)) rfl d_Mod_end_104 ?_
      refine lv_iload hx hb d_Mod_end_107 (lv_at hl 1 rfl) ?_
      refine lv_lload_n hx hb d_Mod_end_109 rfl (lv_at hl 6 rfl) ?_
      refine zlaS (k := xn Z 518 (((40 * u) + (xn Z 517 u)) - 1)) (Z' := (sl (si (si Z 508 (xn Z 518 (((40 * u) + (xn Z 517 u)) - 1)) (xi Z 21 0)) 506 (xn Z 518 (((40 * u) + (xn Z 517 u)) - 1)) what) 514 (xn Z 518 (((40 * u) + (xn Z 517 u)) - 1)) v)) hC hd (e_m14 hm.2) (by omega) (by decide) (u_m14 hm.2) d_Mod_end_110 (fun H locs hd => ?_)
      refine lv_aload_n hx hb d_Mod_end_111 rfl (lv_at hl 3 rfl) ?_
      refine zget hC hd (e_mod hm.1) rfl i_Mod 16 (by decide) q_669 (Or.inl rfl) (v := .ref (ad 11 16)) rfl d_Mod_end_112 ?_
      refine lv_iload hx hb d_Mod_end_115 (lv_at hl 1 rfl) ?_
      refine lv_iconst (v := 1) hx hb d_Mod_end_117 (by decide) ?_
      refine zzaS (y := 1) (k := xn Z 518 (((40 * u) + (xn Z 517 u)) - 1)) (Z' := (si (sl (si (si Z 508 (xn Z 518 (((40 * u) + (xn Z 517 u)) - 1)) (xi Z 21 0)) 506 (xn Z 518 (((40 * u) + (xn Z 517 u)) - 1)) what) 514 (xn Z 518 (((40 * u) + (xn Z 517 u)) - 1)) v) 516 (xn Z 518 (((40 * u) + (xn Z 517 u)) - 1)) 1)) hC hd (by decide) (e_m16 hm.2) (by omega) (by decide) (u_m16 hm.2) d_Mod_end_118 (fun H locs hd => ?_)
      refine lv_aload_n hx hb d_Mod_end_119 rfl (lv_at hl 3 rfl) ?_
      refine zget hC hd (e_mod hm.1) rfl i_Mod 7 (by decide) q_660 (Or.inl rfl) (v := .ref (ad 11 7)) rfl d_Mod_end_120 ?_
      refine lv_iload hx hb d_Mod_end_123 (lv_at hl 1 rfl) ?_
      refine lv_aload_n hx hb d_Mod_end_125 rfl (lv_at hl 3 rfl) ?_
      refine zget hC hd (e_mod hm.1) rfl i_Mod 1 (by decide) q_654 (Or.inl rfl) (v := .int (xi Z 21 0)) rfl d_Mod_end_126 ?_
      refine ziaS (k := xn Z 518 (((40 * u) + (xn Z 517 u)) - 1)) (Z' := (si (si (sl (si (si Z 508 (xn Z 518 (((40 * u) + (xn Z 517 u)) - 1)) (xi Z 21 0)) 506 (xn Z 518 (((40 * u) + (xn Z 517 u)) - 1)) what) 514 (xn Z 518 (((40 * u) + (xn Z 517 u)) - 1)) v) 516 (xn Z 518 (((40 * u) + (xn Z 517 u)) - 1)) 1) 507 (xn Z 518 (((40 * u) + (xn Z 517 u)) - 1)) (xi Z 21 0))) hC hd (e_m7 hm.2) (by omega) (by decide) (u_m7 hm.2) d_Mod_end_129 (fun H locs hd => ?_)
      refine lv_aload_n hx hb d_Mod_end_130 rfl (lv_at hl 3 rfl) ?_
      refine zget hC hd (e_mod hm.1) rfl i_Mod 10 (by decide) q_663 (Or.inl rfl) (v := .ref (ad 11 10)) rfl d_Mod_end_131 ?_
      refine lv_iload hx hb d_Mod_end_134 (lv_at hl 1 rfl) ?_
      refine lv_aload_n hx hb d_Mod_end_136 rfl (lv_at hl 3 rfl) ?_
      refine zget hC hd (e_mod hm.1) rfl i_Mod 19 (by decide) q_672 (Or.inl rfl) (v := .ref (ad 11 19)) rfl d_Mod_end_137 ?_
      refine lv_iload hx hb d_Mod_end_140 (lv_at hl 2 rfl) ?_
      refine ziaN (k := ((40 * u) + (xn Z 517 u)) - 1) (f := xn Z 519) hC hd (e_m19 hm.2) (by omega) (by decide) d_Mod_end_142 ?_
      refine ziaS (k := xn Z 518 (((40 * u) + (xn Z 517 u)) - 1)) (Z' := (sn (si (si (sl (si (si Z 508 (xn Z 518 (((40 * u) + (xn Z 517 u)) - 1)) (xi Z 21 0)) 506 (xn Z 518 (((40 * u) + (xn Z 517 u)) - 1)) what) 514 (xn Z 518 (((40 * u) + (xn Z 517 u)) - 1)) v) 516 (xn Z 518 (((40 * u) + (xn Z 517 u)) - 1)) 1) 507 (xn Z 518 (((40 * u) + (xn Z 517 u)) - 1)) (xi Z 21 0)) 510 (xn Z 518 (((40 * u) + (xn Z 517 u)) - 1)) (xn Z 519 (((40 * u) + (xn Z 517 u)) - 1)))) hC hd (e_m10 hm.2) (by omega) (by decide) (u_m10 hm.2) d_Mod_end_143 (fun H locs hd => ?_)
      refine lv_iconst (v := 0) hx hb d_Mod_end_144 (by decide) ?_
      refine lv_istore (lv' := [(8, .int 0), (7, .int 0), (6, .int (nI (xn Z 518 (((40 * u) + (xn Z 517 u)) - 1)))), (5, .int (nI (((40 * u) + (xn Z 517 u)) - 1))), (0, .ref (ad 10 0)), (1, .int (nI u)), (2, .int what), (3, .long v)]) hx hb d_Mod_end_145 hl (by decide) rfl (fun ls hl => ?_)
      have hsv : m_sameV Z (xn Z 518 (40 * u + xn Z 517 u - 1)) what v = 0 := by unfold m_sameV; (repeat (first | (rw [if_pos]; rotate_left; first | assumption | decide) | (rw [if_neg]; rotate_left; first | assumption | decide))) <;> (try rfl)
      have hz6 : (sn (si (si (sl (si (si Z 508 (xn Z 518 (((40 * u) + (xn Z 517 u)) - 1)) (xi Z 21 0)) 506 (xn Z 518 (((40 * u) + (xn Z 517 u)) - 1)) what) 514 (xn Z 518 (((40 * u) + (xn Z 517 u)) - 1)) v) 516 (xn Z 518 (((40 * u) + (xn Z 517 u)) - 1)) 1) 507 (xn Z 518 (((40 * u) + (xn Z 517 u)) - 1)) (xi Z 21 0)) 510 (xn Z 518 (((40 * u) + (xn Z 517 u)) - 1)) (xn Z 519 (((40 * u) + (xn Z 517 u)) - 1))) = m_endA Z (xn Z 518 (40 * u + xn Z 517 u - 1)) (40 * u + xn Z 517 u - 1) what v := by unfold m_endA; rw [hsv]; (repeat (first | (rw [if_pos]; rotate_left; first | assumption | decide) | (rw [if_neg]; rotate_left; first | assumption | decide))) <;> (try rfl)
      rw [hz6] at hd
      refine lp_Mod_end (xn Z 518 (40 * u + xn Z 517 u - 1)) (40 * u + xn Z 517 u - 1) u 0 what v (xn Z 519 (40 * u + xn Z 517 u - 1)) hk (by omega) hf hC (xn Z 519 (40 * u + xn Z 517 u - 1)) 0 (m_endA Z (xn Z 518 (40 * u + xn Z 517 u - 1)) (40 * u + xn Z 517 u - 1) what v) ls H locs (by omega) hm rfl hd (lv_sub hl [0, 1, 2, 3, 4, 5, 6, 7] rfl) (fun ls H locs hd hl => ?_)
      have hm2 : ML (m_copy (xn Z 518 (40 * u + xn Z 517 u - 1)) (40 * u + xn Z 517 u - 1) (m_endA Z (xn Z 518 (40 * u + xn Z 517 u - 1)) (40 * u + xn Z 517 u - 1) what v) 0 (xn Z 519 (40 * u + xn Z 517 u - 1))) := m_copy_ML (show ML (m_endA Z (xn Z 518 (40 * u + xn Z 517 u - 1)) (40 * u + xn Z 517 u - 1) what v) from hm)
      have hh2 : xn (m_copy (xn Z 518 (40 * u + xn Z 517 u - 1)) (40 * u + xn Z 517 u - 1) (m_endA Z (xn Z 518 (40 * u + xn Z 517 u - 1)) (40 * u + xn Z 517 u - 1) what v) 0 (xn Z 519 (40 * u + xn Z 517 u - 1))) 517 u = xn Z 517 u := m_copy_xn _ _ _ _ _ _ _ (by decide)
      refine lv_aload_n hx hb d_Mod_end_191 rfl (lv_at hl 4 rfl) ?_
      refine zget hC hd (e_mod hm2.1) rfl i_Mod 12 (by decide) q_665 (Or.inl rfl) (v := .ref (ad 11 12)) rfl d_Mod_end_192 ?_
      refine lv_iload hx hb d_Mod_end_195 (lv_at hl 2 rfl) ?_
      refine lv_dup2_11 hx hb d_Mod_end_197 rfl rfl ?_
      refine ziaI (k := xn Z 518 (40 * u + xn Z 517 u - 1)) (f := xi (m_copy (xn Z 518 (40 * u + xn Z 517 u - 1)) (40 * u + xn Z 517 u - 1) (m_endA Z (xn Z 518 (40 * u + xn Z 517 u - 1)) (40 * u + xn Z 517 u - 1) what v) 0 (xn Z 519 (40 * u + xn Z 517 u - 1))) 512) hC hd (e_m12 hm2.2) (by omega) (by decide) d_Mod_end_198 ?_
      refine lv_iconst (v := 1) hx hb d_Mod_end_199 (by decide) ?_
      refine lv_iadd hx hb d_Mod_end_200 ?_
      refine ziaS (k := xn Z 518 (40 * u + xn Z 517 u - 1)) (Z' := (si (m_copy (xn Z 518 (40 * u + xn Z 517 u - 1)) (40 * u + xn Z 517 u - 1) (m_endA Z (xn Z 518 (40 * u + xn Z 517 u - 1)) (40 * u + xn Z 517 u - 1) what v) 0 (xn Z 519 (40 * u + xn Z 517 u - 1))) 512 (xn Z 518 (40 * u + xn Z 517 u - 1)) ((xi (m_copy (xn Z 518 (40 * u + xn Z 517 u - 1)) (40 * u + xn Z 517 u - 1) (m_endA Z (xn Z 518 (40 * u + xn Z 517 u - 1)) (40 * u + xn Z 517 u - 1) what v) 0 (xn Z 519 (40 * u + xn Z 517 u - 1))) 512 (xn Z 518 (40 * u + xn Z 517 u - 1))) + 1))) hC hd (e_m12 hm2.2) (by omega) (by decide) (u_m12 hm2.2) d_Mod_end_201 (fun H locs hd => ?_)
      refine lv_aload_n hx hb d_Mod_end_202 rfl (lv_at hl 4 rfl) ?_
      refine zget hC hd (e_mod hm2.1) rfl i_Mod 17 (by decide) q_670 (Or.inl rfl) (v := .ref (ad 11 17)) rfl d_Mod_end_203 ?_
      refine lv_iload_n hx hb d_Mod_end_206 rfl (lv_at hl 5 rfl) ?_
      refine lv_dup2_11 hx hb d_Mod_end_207 rfl rfl ?_
      refine ziaN (k := u) (f := xn (m_copy (xn Z 518 (40 * u + xn Z 517 u - 1)) (40 * u + xn Z 517 u - 1) (m_endA Z (xn Z 518 (40 * u + xn Z 517 u - 1)) (40 * u + xn Z 517 u - 1) what v) 0 (xn Z 519 (40 * u + xn Z 517 u - 1))) 517) hC hd (e_m17 hm2.2) (by omega) (by decide) d_Mod_end_208 ?_
      refine lv_iconst (v := 1) hx hb d_Mod_end_209 (by decide) ?_
      refine zsubN (x := xn (m_copy (xn Z 518 (40 * u + xn Z 517 u - 1)) (40 * u + xn Z 517 u - 1) (m_endA Z (xn Z 518 (40 * u + xn Z 517 u - 1)) (40 * u + xn Z 517 u - 1) what v) 0 (xn Z 519 (40 * u + xn Z 517 u - 1))) 517 u) (y := 1) (by omega) hx hb d_Mod_end_210 ?_
      refine ziaS (k := u) (Z' := (sn (si (m_copy (xn Z 518 (40 * u + xn Z 517 u - 1)) (40 * u + xn Z 517 u - 1) (m_endA Z (xn Z 518 (40 * u + xn Z 517 u - 1)) (40 * u + xn Z 517 u - 1) what v) 0 (xn Z 519 (40 * u + xn Z 517 u - 1))) 512 (xn Z 518 (40 * u + xn Z 517 u - 1)) ((xi (m_copy (xn Z 518 (40 * u + xn Z 517 u - 1)) (40 * u + xn Z 517 u - 1) (m_endA Z (xn Z 518 (40 * u + xn Z 517 u - 1)) (40 * u + xn Z 517 u - 1) what v) 0 (xn Z 519 (40 * u + xn Z 517 u - 1))) 512 (xn Z 518 (40 * u + xn Z 517 u - 1))) + 1)) 517 u ((xn (m_copy (xn Z 518 (40 * u + xn Z 517 u - 1)) (40 * u + xn Z 517 u - 1) (m_endA Z (xn Z 518 (40 * u + xn Z 517 u - 1)) (40 * u + xn Z 517 u - 1) what v) 0 (xn Z 519 (40 * u + xn Z 517 u - 1))) 517 u) - 1))) hC hd (e_m17 hm2.2) (by omega) (by decide) (u_m17 hm2.2) d_Mod_end_211 (fun H locs hd => ?_)
      refine lv_iconst (v := 2) hx hb d_Mod_end_212 (by decide) ?_
      exact zfi hC hd hr hlk d_Mod_end_213 rfl rfl
    · refine lv_iload_n hx hb d_Mod_end_45 rfl (lv_at hl 4 rfl) ?_
      refine lv_iconst (v := 1) hx hb d_Mod_end_46 (by decide) ?_
      refine lv_icmp_ne (tgt := 62) hx hb d_Mod_end_47 (by decide) (fun c47 => ?_) (fun c47 => ?_)
      · refine lv_iconst (v := 1) hx hb d_Mod_end_62 (by decide) ?_
        refine lv_goto (tgt := 67) hx hb d_Mod_end_63 (by decide) ?_
        refine lv_istore (lv' := [(7, .int 1), (6, .int (nI (xn Z 518 (((40 * u) + (xn Z 517 u)) - 1)))), (5, .int (nI (((40 * u) + (xn Z 517 u)) - 1))), (0, .ref (ad 10 0)), (1, .int (nI u)), (2, .int what), (3, .long v)]) hx hb d_Mod_end_67 hl (by decide) rfl (fun ls hl => ?_)
        refine lv_aload_n hx hb d_Mod_end_69 rfl (lv_at hl 3 rfl) ?_
        refine zget hC hd (e_mod hm.1) rfl i_Mod 8 (by decide) q_661 (Or.inl rfl) (v := .ref (ad 11 8)) rfl d_Mod_end_70 ?_
        refine lv_iload hx hb d_Mod_end_73 (lv_at hl 1 rfl) ?_
        refine lv_iload hx hb d_Mod_end_75 (lv_at hl 0 rfl) ?_
        refine lv_if_eq (tgt := 90) hx hb d_Mod_end_77 (by decide) (fun c => absurd c (by decide)) (fun _ => ?_)
        refine lv_aload_n hx hb d_Mod_end_80 rfl (lv_at hl 3 rfl) ?_
        refine zget hC hd (e_mod hm.1) rfl i_Mod 8 (by decide) q_661 (Or.inl rfl) (v := .ref (ad 11 8)) rfl d_Mod_end_81 ?_
        refine lv_iload hx hb d_Mod_end_84 (lv_at hl 1 rfl) ?_
        refine ziaI (k := xn Z 518 (((40 * u) + (xn Z 517 u)) - 1)) (f := xi Z 508) hC hd (e_m8 hm.2) (by omega) (by decide) d_Mod_end_86 ?_
        refine lv_goto (tgt := 94) hx hb d_Mod_end_87 (by decide) ?_
        refine ziaS (k := xn Z 518 (((40 * u) + (xn Z 517 u)) - 1)) (Z' := (si Z 508 (xn Z 518 (((40 * u) + (xn Z 517 u)) - 1)) (xi Z 508 (xn Z 518 (((40 * u) + (xn Z 517 u)) - 1))))) hC hd (e_m8 hm.2) (by omega) (by decide) (u_m8 hm.2) d_Mod_end_94 (fun H locs hd => ?_)
        refine lv_aload_n hx hb d_Mod_end_95 rfl (lv_at hl 3 rfl) ?_
        refine zget hC hd (e_mod hm.1) rfl i_Mod 6 (by decide) q_659 (Or.inl rfl) (v := .ref (ad 11 6)) rfl d_Mod_end_96 ?_
        refine lv_iload hx hb d_Mod_end_99 (lv_at hl 1 rfl) ?_
        refine lv_iload_n hx hb d_Mod_end_101 rfl (lv_at hl 5 rfl) ?_
        refine ziaS (k := xn Z 518 (((40 * u) + (xn Z 517 u)) - 1)) (Z' := (si (si Z 508 (xn Z 518 (((40 * u) + (xn Z 517 u)) - 1)) (xi Z 508 (xn Z 518 (((40 * u) + (xn Z 517 u)) - 1)))) 506 (xn Z 518 (((40 * u) + (xn Z 517 u)) - 1)) what)) hC hd (e_m6 hm.2) (by omega) (by decide) (u_m6 hm.2) d_Mod_end_102 (fun H locs hd => ?_)
        refine lv_aload_n hx hb d_Mod_end_103 rfl (lv_at hl 3 rfl) ?_
        refine zget hC hd (e_mod hm.1) rfl i_Mod 14 (by decide) q_667 (Or.inl rfl) (v := .ref (ad 11 14)) rfl d_Mod_end_104 ?_
        refine lv_iload hx hb d_Mod_end_107 (lv_at hl 1 rfl) ?_
        refine lv_lload_n hx hb d_Mod_end_109 rfl (lv_at hl 6 rfl) ?_
        refine zlaS (k := xn Z 518 (((40 * u) + (xn Z 517 u)) - 1)) (Z' := (sl (si (si Z 508 (xn Z 518 (((40 * u) + (xn Z 517 u)) - 1)) (xi Z 508 (xn Z 518 (((40 * u) + (xn Z 517 u)) - 1)))) 506 (xn Z 518 (((40 * u) + (xn Z 517 u)) - 1)) what) 514 (xn Z 518 (((40 * u) + (xn Z 517 u)) - 1)) v)) hC hd (e_m14 hm.2) (by omega) (by decide) (u_m14 hm.2) d_Mod_end_110 (fun H locs hd => ?_)
        refine lv_aload_n hx hb d_Mod_end_111 rfl (lv_at hl 3 rfl) ?_
        refine zget hC hd (e_mod hm.1) rfl i_Mod 16 (by decide) q_669 (Or.inl rfl) (v := .ref (ad 11 16)) rfl d_Mod_end_112 ?_
        refine lv_iload hx hb d_Mod_end_115 (lv_at hl 1 rfl) ?_
        refine lv_iconst (v := 1) hx hb d_Mod_end_117 (by decide) ?_
        refine zzaS (y := 1) (k := xn Z 518 (((40 * u) + (xn Z 517 u)) - 1)) (Z' := (si (sl (si (si Z 508 (xn Z 518 (((40 * u) + (xn Z 517 u)) - 1)) (xi Z 508 (xn Z 518 (((40 * u) + (xn Z 517 u)) - 1)))) 506 (xn Z 518 (((40 * u) + (xn Z 517 u)) - 1)) what) 514 (xn Z 518 (((40 * u) + (xn Z 517 u)) - 1)) v) 516 (xn Z 518 (((40 * u) + (xn Z 517 u)) - 1)) 1)) hC hd (by decide) (e_m16 hm.2) (by omega) (by decide) (u_m16 hm.2) d_Mod_end_118 (fun H locs hd => ?_)
        refine lv_aload_n hx hb d_Mod_end_119 rfl (lv_at hl 3 rfl) ?_
        refine zget hC hd (e_mod hm.1) rfl i_Mod 7 (by decide) q_660 (Or.inl rfl) (v := .ref (ad 11 7)) rfl d_Mod_end_120 ?_
        refine lv_iload hx hb d_Mod_end_123 (lv_at hl 1 rfl) ?_
        refine lv_aload_n hx hb d_Mod_end_125 rfl (lv_at hl 3 rfl) ?_
        refine zget hC hd (e_mod hm.1) rfl i_Mod 1 (by decide) q_654 (Or.inl rfl) (v := .int (xi Z 21 0)) rfl d_Mod_end_126 ?_
        refine ziaS (k := xn Z 518 (((40 * u) + (xn Z 517 u)) - 1)) (Z' := (si (si (sl (si (si Z 508 (xn Z 518 (((40 * u) + (xn Z 517 u)) - 1)) (xi Z 508 (xn Z 518 (((40 * u) + (xn Z 517 u)) - 1)))) 506 (xn Z 518 (((40 * u) + (xn Z 517 u)) - 1)) what) 514 (xn Z 518 (((40 * u) + (xn Z 517 u)) - 1)) v) 516 (xn Z 518 (((40 * u) + (xn Z 517 u)) - 1)) 1) 507 (xn Z 518 (((40 * u) + (xn Z 517 u)) - 1)) (xi Z 21 0))) hC hd (e_m7 hm.2) (by omega) (by decide) (u_m7 hm.2) d_Mod_end_129 (fun H locs hd => ?_)
        refine lv_aload_n hx hb d_Mod_end_130 rfl (lv_at hl 3 rfl) ?_
        refine zget hC hd (e_mod hm.1) rfl i_Mod 10 (by decide) q_663 (Or.inl rfl) (v := .ref (ad 11 10)) rfl d_Mod_end_131 ?_
        refine lv_iload hx hb d_Mod_end_134 (lv_at hl 1 rfl) ?_
        refine lv_aload_n hx hb d_Mod_end_136 rfl (lv_at hl 3 rfl) ?_
        refine zget hC hd (e_mod hm.1) rfl i_Mod 19 (by decide) q_672 (Or.inl rfl) (v := .ref (ad 11 19)) rfl d_Mod_end_137 ?_
        refine lv_iload hx hb d_Mod_end_140 (lv_at hl 2 rfl) ?_
        refine ziaN (k := ((40 * u) + (xn Z 517 u)) - 1) (f := xn Z 519) hC hd (e_m19 hm.2) (by omega) (by decide) d_Mod_end_142 ?_
        refine ziaS (k := xn Z 518 (((40 * u) + (xn Z 517 u)) - 1)) (Z' := (sn (si (si (sl (si (si Z 508 (xn Z 518 (((40 * u) + (xn Z 517 u)) - 1)) (xi Z 508 (xn Z 518 (((40 * u) + (xn Z 517 u)) - 1)))) 506 (xn Z 518 (((40 * u) + (xn Z 517 u)) - 1)) what) 514 (xn Z 518 (((40 * u) + (xn Z 517 u)) - 1)) v) 516 (xn Z 518 (((40 * u) + (xn Z 517 u)) - 1)) 1) 507 (xn Z 518 (((40 * u) + (xn Z 517 u)) - 1)) (xi Z 21 0)) 510 (xn Z 518 (((40 * u) + (xn Z 517 u)) - 1)) (xn Z 519 (((40 * u) + (xn Z 517 u)) - 1)))) hC hd (e_m10 hm.2) (by omega) (by decide) (u_m10 hm.2) d_Mod_end_143 (fun H locs hd => ?_)
        refine lv_iconst (v := 0) hx hb d_Mod_end_144 (by decide) ?_
        refine lv_istore (lv' := [(8, .int 0), (7, .int 1), (6, .int (nI (xn Z 518 (((40 * u) + (xn Z 517 u)) - 1)))), (5, .int (nI (((40 * u) + (xn Z 517 u)) - 1))), (0, .ref (ad 10 0)), (1, .int (nI u)), (2, .int what), (3, .long v)]) hx hb d_Mod_end_145 hl (by decide) rfl (fun ls hl => ?_)
        have hsv : m_sameV Z (xn Z 518 (40 * u + xn Z 517 u - 1)) what v = 1 := by unfold m_sameV; (repeat (first | (rw [if_pos]; rotate_left; first | assumption | decide) | (rw [if_neg]; rotate_left; first | assumption | decide))) <;> (try rfl)
        have hz6 : (sn (si (si (sl (si (si Z 508 (xn Z 518 (((40 * u) + (xn Z 517 u)) - 1)) (xi Z 508 (xn Z 518 (((40 * u) + (xn Z 517 u)) - 1)))) 506 (xn Z 518 (((40 * u) + (xn Z 517 u)) - 1)) what) 514 (xn Z 518 (((40 * u) + (xn Z 517 u)) - 1)) v) 516 (xn Z 518 (((40 * u) + (xn Z 517 u)) - 1)) 1) 507 (xn Z 518 (((40 * u) + (xn Z 517 u)) - 1)) (xi Z 21 0)) 510 (xn Z 518 (((40 * u) + (xn Z 517 u)) - 1)) (xn Z 519 (((40 * u) + (xn Z 517 u)) - 1))) = m_endA Z (xn Z 518 (40 * u + xn Z 517 u - 1)) (40 * u + xn Z 517 u - 1) what v := by unfold m_endA; rw [hsv]; (repeat (first | (rw [if_pos]; rotate_left; first | assumption | decide) | (rw [if_neg]; rotate_left; first | assumption | decide))) <;> (try rfl)
        rw [hz6] at hd
        refine lp_Mod_end (xn Z 518 (40 * u + xn Z 517 u - 1)) (40 * u + xn Z 517 u - 1) u 1 what v (xn Z 519 (40 * u + xn Z 517 u - 1)) hk (by omega) hf hC (xn Z 519 (40 * u + xn Z 517 u - 1)) 0 (m_endA Z (xn Z 518 (40 * u + xn Z 517 u - 1)) (40 * u + xn Z 517 u - 1) what v) ls H locs (by omega) hm rfl hd (lv_sub hl [0, 1, 2, 3, 4, 5, 6, 7] rfl) (fun ls H locs hd hl => ?_)
        have hm2 : ML (m_copy (xn Z 518 (40 * u + xn Z 517 u - 1)) (40 * u + xn Z 517 u - 1) (m_endA Z (xn Z 518 (40 * u + xn Z 517 u - 1)) (40 * u + xn Z 517 u - 1) what v) 0 (xn Z 519 (40 * u + xn Z 517 u - 1))) := m_copy_ML (show ML (m_endA Z (xn Z 518 (40 * u + xn Z 517 u - 1)) (40 * u + xn Z 517 u - 1) what v) from hm)
        have hh2 : xn (m_copy (xn Z 518 (40 * u + xn Z 517 u - 1)) (40 * u + xn Z 517 u - 1) (m_endA Z (xn Z 518 (40 * u + xn Z 517 u - 1)) (40 * u + xn Z 517 u - 1) what v) 0 (xn Z 519 (40 * u + xn Z 517 u - 1))) 517 u = xn Z 517 u := m_copy_xn _ _ _ _ _ _ _ (by decide)
        refine lv_aload_n hx hb d_Mod_end_191 rfl (lv_at hl 4 rfl) ?_
        refine zget hC hd (e_mod hm2.1) rfl i_Mod 12 (by decide) q_665 (Or.inl rfl) (v := .ref (ad 11 12)) rfl d_Mod_end_192 ?_
        refine lv_iload hx hb d_Mod_end_195 (lv_at hl 2 rfl) ?_
        refine lv_dup2_11 hx hb d_Mod_end_197 rfl rfl ?_
        refine ziaI (k := xn Z 518 (40 * u + xn Z 517 u - 1)) (f := xi (m_copy (xn Z 518 (40 * u + xn Z 517 u - 1)) (40 * u + xn Z 517 u - 1) (m_endA Z (xn Z 518 (40 * u + xn Z 517 u - 1)) (40 * u + xn Z 517 u - 1) what v) 0 (xn Z 519 (40 * u + xn Z 517 u - 1))) 512) hC hd (e_m12 hm2.2) (by omega) (by decide) d_Mod_end_198 ?_
        refine lv_iconst (v := 1) hx hb d_Mod_end_199 (by decide) ?_
        refine lv_iadd hx hb d_Mod_end_200 ?_
        refine ziaS (k := xn Z 518 (40 * u + xn Z 517 u - 1)) (Z' := (si (m_copy (xn Z 518 (40 * u + xn Z 517 u - 1)) (40 * u + xn Z 517 u - 1) (m_endA Z (xn Z 518 (40 * u + xn Z 517 u - 1)) (40 * u + xn Z 517 u - 1) what v) 0 (xn Z 519 (40 * u + xn Z 517 u - 1))) 512 (xn Z 518 (40 * u + xn Z 517 u - 1)) ((xi (m_copy (xn Z 518 (40 * u + xn Z 517 u - 1)) (40 * u + xn Z 517 u - 1) (m_endA Z (xn Z 518 (40 * u + xn Z 517 u - 1)) (40 * u + xn Z 517 u - 1) what v) 0 (xn Z 519 (40 * u + xn Z 517 u - 1))) 512 (xn Z 518 (40 * u + xn Z 517 u - 1))) + 1))) hC hd (e_m12 hm2.2) (by omega) (by decide) (u_m12 hm2.2) d_Mod_end_201 (fun H locs hd => ?_)
        refine lv_aload_n hx hb d_Mod_end_202 rfl (lv_at hl 4 rfl) ?_
        refine zget hC hd (e_mod hm2.1) rfl i_Mod 17 (by decide) q_670 (Or.inl rfl) (v := .ref (ad 11 17)) rfl d_Mod_end_203 ?_
        refine lv_iload_n hx hb d_Mod_end_206 rfl (lv_at hl 5 rfl) ?_
        refine lv_dup2_11 hx hb d_Mod_end_207 rfl rfl ?_
        refine ziaN (k := u) (f := xn (m_copy (xn Z 518 (40 * u + xn Z 517 u - 1)) (40 * u + xn Z 517 u - 1) (m_endA Z (xn Z 518 (40 * u + xn Z 517 u - 1)) (40 * u + xn Z 517 u - 1) what v) 0 (xn Z 519 (40 * u + xn Z 517 u - 1))) 517) hC hd (e_m17 hm2.2) (by omega) (by decide) d_Mod_end_208 ?_
        refine lv_iconst (v := 1) hx hb d_Mod_end_209 (by decide) ?_
        refine zsubN (x := xn (m_copy (xn Z 518 (40 * u + xn Z 517 u - 1)) (40 * u + xn Z 517 u - 1) (m_endA Z (xn Z 518 (40 * u + xn Z 517 u - 1)) (40 * u + xn Z 517 u - 1) what v) 0 (xn Z 519 (40 * u + xn Z 517 u - 1))) 517 u) (y := 1) (by omega) hx hb d_Mod_end_210 ?_
        refine ziaS (k := u) (Z' := (sn (si (m_copy (xn Z 518 (40 * u + xn Z 517 u - 1)) (40 * u + xn Z 517 u - 1) (m_endA Z (xn Z 518 (40 * u + xn Z 517 u - 1)) (40 * u + xn Z 517 u - 1) what v) 0 (xn Z 519 (40 * u + xn Z 517 u - 1))) 512 (xn Z 518 (40 * u + xn Z 517 u - 1)) ((xi (m_copy (xn Z 518 (40 * u + xn Z 517 u - 1)) (40 * u + xn Z 517 u - 1) (m_endA Z (xn Z 518 (40 * u + xn Z 517 u - 1)) (40 * u + xn Z 517 u - 1) what v) 0 (xn Z 519 (40 * u + xn Z 517 u - 1))) 512 (xn Z 518 (40 * u + xn Z 517 u - 1))) + 1)) 517 u ((xn (m_copy (xn Z 518 (40 * u + xn Z 517 u - 1)) (40 * u + xn Z 517 u - 1) (m_endA Z (xn Z 518 (40 * u + xn Z 517 u - 1)) (40 * u + xn Z 517 u - 1) what v) 0 (xn Z 519 (40 * u + xn Z 517 u - 1))) 517 u) - 1))) hC hd (e_m17 hm2.2) (by omega) (by decide) (u_m17 hm2.2) d_Mod_end_211 (fun H locs hd => ?_)
        refine lv_iconst (v := 2) hx hb d_Mod_end_212 (by decide) ?_
        exact zfi hC hd hr hlk d_Mod_end_213 rfl rfl
      · refine lv_aload_n hx hb d_Mod_end_50 rfl (lv_at hl 2 rfl) ?_
        refine zget hC hd (e_mod hm.1) rfl i_Mod 14 (by decide) q_667 (Or.inl rfl) (v := .ref (ad 11 14)) rfl d_Mod_end_51 ?_
        refine lv_iload hx hb d_Mod_end_54 (lv_at hl 0 rfl) ?_
        refine zlaI (k := xn Z 518 (((40 * u) + (xn Z 517 u)) - 1)) (f := xl Z 514) hC hd (e_m14 hm.2) (by omega) (by decide) d_Mod_end_56 ?_
        refine lv_lload_n hx hb d_Mod_end_57 rfl (lv_at hl 5 rfl) ?_
        refine W.lcmp hx hb d_Mod_end_58 ?_
        refine lv_if_ne (tgt := 66) hx hb d_Mod_end_59 (by decide) (fun c59 => ?_) (fun c59 => ?_)
        · simp only [ne_eq, lg_cmp_eq, lg_cmp_le, lg_cmp_lt, lg_cmp_ge, lg_cmp_gt] at c59
          refine lv_iconst (v := 0) hx hb d_Mod_end_66 (by decide) ?_
          refine lv_istore (lv' := [(7, .int 0), (6, .int (nI (xn Z 518 (((40 * u) + (xn Z 517 u)) - 1)))), (5, .int (nI (((40 * u) + (xn Z 517 u)) - 1))), (0, .ref (ad 10 0)), (1, .int (nI u)), (2, .int what), (3, .long v)]) hx hb d_Mod_end_67 hl (by decide) rfl (fun ls hl => ?_)
          refine lv_aload_n hx hb d_Mod_end_69 rfl (lv_at hl 3 rfl) ?_
          refine zget hC hd (e_mod hm.1) rfl i_Mod 8 (by decide) q_661 (Or.inl rfl) (v := .ref (ad 11 8)) rfl d_Mod_end_70 ?_
          refine lv_iload hx hb d_Mod_end_73 (lv_at hl 1 rfl) ?_
          refine lv_iload hx hb d_Mod_end_75 (lv_at hl 0 rfl) ?_
          refine lv_if_eq (tgt := 90) hx hb d_Mod_end_77 (by decide) (fun _ => ?_) (fun c => absurd c (by decide))
          refine lv_aload_n hx hb d_Mod_end_90 rfl (lv_at hl 3 rfl) ?_
          refine zget hC hd (e_mod hm.1) rfl i_Mod 1 (by decide) q_654 (Or.inl rfl) (v := .int (xi Z 21 0)) rfl d_Mod_end_91 ?_
          refine ziaS (k := xn Z 518 (((40 * u) + (xn Z 517 u)) - 1)) (Z' := (si Z 508 (xn Z 518 (((40 * u) + (xn Z 517 u)) - 1)) (xi Z 21 0))) hC hd (e_m8 hm.2) (by omega) (by decide) (u_m8 hm.2) d_Mod_end_94 (fun H locs hd => ?_)
          refine lv_aload_n hx hb d_Mod_end_95 rfl (lv_at hl 3 rfl) ?_
          refine zget hC hd (e_mod hm.1) rfl i_Mod 6 (by decide) q_659 (Or.inl rfl) (v := .ref (ad 11 6)) rfl d_Mod_end_96 ?_
          refine lv_iload hx hb d_Mod_end_99 (lv_at hl 1 rfl) ?_
          refine lv_iload_n hx hb d_Mod_end_101 rfl (lv_at hl 5 rfl) ?_
          refine ziaS (k := xn Z 518 (((40 * u) + (xn Z 517 u)) - 1)) (Z' := (si (si Z 508 (xn Z 518 (((40 * u) + (xn Z 517 u)) - 1)) (xi Z 21 0)) 506 (xn Z 518 (((40 * u) + (xn Z 517 u)) - 1)) what)) hC hd (e_m6 hm.2) (by omega) (by decide) (u_m6 hm.2) d_Mod_end_102 (fun H locs hd => ?_)
          refine lv_aload_n hx hb d_Mod_end_103 rfl (lv_at hl 3 rfl) ?_
          refine zget hC hd (e_mod hm.1) rfl i_Mod 14 (by decide) q_667 (Or.inl rfl) (v := .ref (ad 11 14)) rfl d_Mod_end_104 ?_
          refine lv_iload hx hb d_Mod_end_107 (lv_at hl 1 rfl) ?_
          refine lv_lload_n hx hb d_Mod_end_109 rfl (lv_at hl 6 rfl) ?_
          refine zlaS (k := xn Z 518 (((40 * u) + (xn Z 517 u)) - 1)) (Z' := (sl (si (si Z 508 (xn Z 518 (((40 * u) + (xn Z 517 u)) - 1)) (xi Z 21 0)) 506 (xn Z 518 (((40 * u) + (xn Z 517 u)) - 1)) what) 514 (xn Z 518 (((40 * u) + (xn Z 517 u)) - 1)) v)) hC hd (e_m14 hm.2) (by omega) (by decide) (u_m14 hm.2) d_Mod_end_110 (fun H locs hd => ?_)
          refine lv_aload_n hx hb d_Mod_end_111 rfl (lv_at hl 3 rfl) ?_
          refine zget hC hd (e_mod hm.1) rfl i_Mod 16 (by decide) q_669 (Or.inl rfl) (v := .ref (ad 11 16)) rfl d_Mod_end_112 ?_
          refine lv_iload hx hb d_Mod_end_115 (lv_at hl 1 rfl) ?_
          refine lv_iconst (v := 1) hx hb d_Mod_end_117 (by decide) ?_
          refine zzaS (y := 1) (k := xn Z 518 (((40 * u) + (xn Z 517 u)) - 1)) (Z' := (si (sl (si (si Z 508 (xn Z 518 (((40 * u) + (xn Z 517 u)) - 1)) (xi Z 21 0)) 506 (xn Z 518 (((40 * u) + (xn Z 517 u)) - 1)) what) 514 (xn Z 518 (((40 * u) + (xn Z 517 u)) - 1)) v) 516 (xn Z 518 (((40 * u) + (xn Z 517 u)) - 1)) 1)) hC hd (by decide) (e_m16 hm.2) (by omega) (by decide) (u_m16 hm.2) d_Mod_end_118 (fun H locs hd => ?_)
          refine lv_aload_n hx hb d_Mod_end_119 rfl (lv_at hl 3 rfl) ?_
          refine zget hC hd (e_mod hm.1) rfl i_Mod 7 (by decide) q_660 (Or.inl rfl) (v := .ref (ad 11 7)) rfl d_Mod_end_120 ?_
          refine lv_iload hx hb d_Mod_end_123 (lv_at hl 1 rfl) ?_
          refine lv_aload_n hx hb d_Mod_end_125 rfl (lv_at hl 3 rfl) ?_
          refine zget hC hd (e_mod hm.1) rfl i_Mod 1 (by decide) q_654 (Or.inl rfl) (v := .int (xi Z 21 0)) rfl d_Mod_end_126 ?_
          refine ziaS (k := xn Z 518 (((40 * u) + (xn Z 517 u)) - 1)) (Z' := (si (si (sl (si (si Z 508 (xn Z 518 (((40 * u) + (xn Z 517 u)) - 1)) (xi Z 21 0)) 506 (xn Z 518 (((40 * u) + (xn Z 517 u)) - 1)) what) 514 (xn Z 518 (((40 * u) + (xn Z 517 u)) - 1)) v) 516 (xn Z 518 (((40 * u) + (xn Z 517 u)) - 1)) 1) 507 (xn Z 518 (((40 * u) + (xn Z 517 u)) - 1)) (xi Z 21 0))) hC hd (e_m7 hm.2) (by omega) (by decide) (u_m7 hm.2) d_Mod_end_129 (fun H locs hd => ?_)
          refine lv_aload_n hx hb d_Mod_end_130 rfl (lv_at hl 3 rfl) ?_
          refine zget hC hd (e_mod hm.1) rfl i_Mod 10 (by decide) q_663 (Or.inl rfl) (v := .ref (ad 11 10)) rfl d_Mod_end_131 ?_
          refine lv_iload hx hb d_Mod_end_134 (lv_at hl 1 rfl) ?_
          refine lv_aload_n hx hb d_Mod_end_136 rfl (lv_at hl 3 rfl) ?_
          refine zget hC hd (e_mod hm.1) rfl i_Mod 19 (by decide) q_672 (Or.inl rfl) (v := .ref (ad 11 19)) rfl d_Mod_end_137 ?_
          refine lv_iload hx hb d_Mod_end_140 (lv_at hl 2 rfl) ?_
          refine ziaN (k := ((40 * u) + (xn Z 517 u)) - 1) (f := xn Z 519) hC hd (e_m19 hm.2) (by omega) (by decide) d_Mod_end_142 ?_
          refine ziaS (k := xn Z 518 (((40 * u) + (xn Z 517 u)) - 1)) (Z' := (sn (si (si (sl (si (si Z 508 (xn Z 518 (((40 * u) + (xn Z 517 u)) - 1)) (xi Z 21 0)) 506 (xn Z 518 (((40 * u) + (xn Z 517 u)) - 1)) what) 514 (xn Z 518 (((40 * u) + (xn Z 517 u)) - 1)) v) 516 (xn Z 518 (((40 * u) + (xn Z 517 u)) - 1)) 1) 507 (xn Z 518 (((40 * u) + (xn Z 517 u)) - 1)) (xi Z 21 0)) 510 (xn Z 518 (((40 * u) + (xn Z 517 u)) - 1)) (xn Z 519 (((40 * u) + (xn Z 517 u)) - 1)))) hC hd (e_m10 hm.2) (by omega) (by decide) (u_m10 hm.2) d_Mod_end_143 (fun H locs hd => ?_)
          refine lv_iconst (v := 0) hx hb d_Mod_end_144 (by decide) ?_
          refine lv_istore (lv' := [(8, .int 0), (7, .int 0), (6, .int (nI (xn Z 518 (((40 * u) + (xn Z 517 u)) - 1)))), (5, .int (nI (((40 * u) + (xn Z 517 u)) - 1))), (0, .ref (ad 10 0)), (1, .int (nI u)), (2, .int what), (3, .long v)]) hx hb d_Mod_end_145 hl (by decide) rfl (fun ls hl => ?_)
          have hsv : m_sameV Z (xn Z 518 (40 * u + xn Z 517 u - 1)) what v = 0 := by unfold m_sameV; (repeat (first | (rw [if_pos]; rotate_left; first | assumption | decide) | (rw [if_neg]; rotate_left; first | assumption | decide))) <;> (try rfl)
          have hz6 : (sn (si (si (sl (si (si Z 508 (xn Z 518 (((40 * u) + (xn Z 517 u)) - 1)) (xi Z 21 0)) 506 (xn Z 518 (((40 * u) + (xn Z 517 u)) - 1)) what) 514 (xn Z 518 (((40 * u) + (xn Z 517 u)) - 1)) v) 516 (xn Z 518 (((40 * u) + (xn Z 517 u)) - 1)) 1) 507 (xn Z 518 (((40 * u) + (xn Z 517 u)) - 1)) (xi Z 21 0)) 510 (xn Z 518 (((40 * u) + (xn Z 517 u)) - 1)) (xn Z 519 (((40 * u) + (xn Z 517 u)) - 1))) = m_endA Z (xn Z 518 (40 * u + xn Z 517 u - 1)) (40 * u + xn Z 517 u - 1) what v := by unfold m_endA; rw [hsv]; (repeat (first | (rw [if_pos]; rotate_left; first | assumption | decide) | (rw [if_neg]; rotate_left; first | assumption | decide))) <;> (try rfl)
          rw [hz6] at hd
          refine lp_Mod_end (xn Z 518 (40 * u + xn Z 517 u - 1)) (40 * u + xn Z 517 u - 1) u 0 what v (xn Z 519 (40 * u + xn Z 517 u - 1)) hk (by omega) hf hC (xn Z 519 (40 * u + xn Z 517 u - 1)) 0 (m_endA Z (xn Z 518 (40 * u + xn Z 517 u - 1)) (40 * u + xn Z 517 u - 1) what v) ls H locs (by omega) hm rfl hd (lv_sub hl [0, 1, 2, 3, 4, 5, 6, 7] rfl) (fun ls H locs hd hl => ?_)
          have hm2 : ML (m_copy (xn Z 518 (40 * u + xn Z 517 u - 1)) (40 * u + xn Z 517 u - 1) (m_endA Z (xn Z 518 (40 * u + xn Z 517 u - 1)) (40 * u + xn Z 517 u - 1) what v) 0 (xn Z 519 (40 * u + xn Z 517 u - 1))) := m_copy_ML (show ML (m_endA Z (xn Z 518 (40 * u + xn Z 517 u - 1)) (40 * u + xn Z 517 u - 1) what v) from hm)
          have hh2 : xn (m_copy (xn Z 518 (40 * u + xn Z 517 u - 1)) (40 * u + xn Z 517 u - 1) (m_endA Z (xn Z 518 (40 * u + xn Z 517 u - 1)) (40 * u + xn Z 517 u - 1) what v) 0 (xn Z 519 (40 * u + xn Z 517 u - 1))) 517 u = xn Z 517 u := m_copy_xn _ _ _ _ _ _ _ (by decide)
          refine lv_aload_n hx hb d_Mod_end_191 rfl (lv_at hl 4 rfl) ?_
          refine zget hC hd (e_mod hm2.1) rfl i_Mod 12 (by decide) q_665 (Or.inl rfl) (v := .ref (ad 11 12)) rfl d_Mod_end_192 ?_
          refine lv_iload hx hb d_Mod_end_195 (lv_at hl 2 rfl) ?_
          refine lv_dup2_11 hx hb d_Mod_end_197 rfl rfl ?_
          refine ziaI (k := xn Z 518 (40 * u + xn Z 517 u - 1)) (f := xi (m_copy (xn Z 518 (40 * u + xn Z 517 u - 1)) (40 * u + xn Z 517 u - 1) (m_endA Z (xn Z 518 (40 * u + xn Z 517 u - 1)) (40 * u + xn Z 517 u - 1) what v) 0 (xn Z 519 (40 * u + xn Z 517 u - 1))) 512) hC hd (e_m12 hm2.2) (by omega) (by decide) d_Mod_end_198 ?_
          refine lv_iconst (v := 1) hx hb d_Mod_end_199 (by decide) ?_
          refine lv_iadd hx hb d_Mod_end_200 ?_
          refine ziaS (k := xn Z 518 (40 * u + xn Z 517 u - 1)) (Z' := (si (m_copy (xn Z 518 (40 * u + xn Z 517 u - 1)) (40 * u + xn Z 517 u - 1) (m_endA Z (xn Z 518 (40 * u + xn Z 517 u - 1)) (40 * u + xn Z 517 u - 1) what v) 0 (xn Z 519 (40 * u + xn Z 517 u - 1))) 512 (xn Z 518 (40 * u + xn Z 517 u - 1)) ((xi (m_copy (xn Z 518 (40 * u + xn Z 517 u - 1)) (40 * u + xn Z 517 u - 1) (m_endA Z (xn Z 518 (40 * u + xn Z 517 u - 1)) (40 * u + xn Z 517 u - 1) what v) 0 (xn Z 519 (40 * u + xn Z 517 u - 1))) 512 (xn Z 518 (40 * u + xn Z 517 u - 1))) + 1))) hC hd (e_m12 hm2.2) (by omega) (by decide) (u_m12 hm2.2) d_Mod_end_201 (fun H locs hd => ?_)
          refine lv_aload_n hx hb d_Mod_end_202 rfl (lv_at hl 4 rfl) ?_
          refine zget hC hd (e_mod hm2.1) rfl i_Mod 17 (by decide) q_670 (Or.inl rfl) (v := .ref (ad 11 17)) rfl d_Mod_end_203 ?_
          refine lv_iload_n hx hb d_Mod_end_206 rfl (lv_at hl 5 rfl) ?_
          refine lv_dup2_11 hx hb d_Mod_end_207 rfl rfl ?_
          refine ziaN (k := u) (f := xn (m_copy (xn Z 518 (40 * u + xn Z 517 u - 1)) (40 * u + xn Z 517 u - 1) (m_endA Z (xn Z 518 (40 * u + xn Z 517 u - 1)) (40 * u + xn Z 517 u - 1) what v) 0 (xn Z 519 (40 * u + xn Z 517 u - 1))) 517) hC hd (e_m17 hm2.2) (by omega) (by decide) d_Mod_end_208 ?_
          refine lv_iconst (v := 1) hx hb d_Mod_end_209 (by decide) ?_
          refine zsubN (x := xn (m_copy (xn Z 518 (40 * u + xn Z 517 u - 1)) (40 * u + xn Z 517 u - 1) (m_endA Z (xn Z 518 (40 * u + xn Z 517 u - 1)) (40 * u + xn Z 517 u - 1) what v) 0 (xn Z 519 (40 * u + xn Z 517 u - 1))) 517 u) (y := 1) (by omega) hx hb d_Mod_end_210 ?_
          refine ziaS (k := u) (Z' := (sn (si (m_copy (xn Z 518 (40 * u + xn Z 517 u - 1)) (40 * u + xn Z 517 u - 1) (m_endA Z (xn Z 518 (40 * u + xn Z 517 u - 1)) (40 * u + xn Z 517 u - 1) what v) 0 (xn Z 519 (40 * u + xn Z 517 u - 1))) 512 (xn Z 518 (40 * u + xn Z 517 u - 1)) ((xi (m_copy (xn Z 518 (40 * u + xn Z 517 u - 1)) (40 * u + xn Z 517 u - 1) (m_endA Z (xn Z 518 (40 * u + xn Z 517 u - 1)) (40 * u + xn Z 517 u - 1) what v) 0 (xn Z 519 (40 * u + xn Z 517 u - 1))) 512 (xn Z 518 (40 * u + xn Z 517 u - 1))) + 1)) 517 u ((xn (m_copy (xn Z 518 (40 * u + xn Z 517 u - 1)) (40 * u + xn Z 517 u - 1) (m_endA Z (xn Z 518 (40 * u + xn Z 517 u - 1)) (40 * u + xn Z 517 u - 1) what v) 0 (xn Z 519 (40 * u + xn Z 517 u - 1))) 517 u) - 1))) hC hd (e_m17 hm2.2) (by omega) (by decide) (u_m17 hm2.2) d_Mod_end_211 (fun H locs hd => ?_)
          refine lv_iconst (v := 2) hx hb d_Mod_end_212 (by decide) ?_
          exact zfi hC hd hr hlk d_Mod_end_213 rfl rfl
        · simp only [ne_eq, lg_cmp_eq, lg_cmp_le, lg_cmp_lt, lg_cmp_ge, lg_cmp_gt] at c59
          refine lv_iconst (v := 1) hx hb d_Mod_end_62 (by decide) ?_
          refine lv_goto (tgt := 67) hx hb d_Mod_end_63 (by decide) ?_
          refine lv_istore (lv' := [(7, .int 1), (6, .int (nI (xn Z 518 (((40 * u) + (xn Z 517 u)) - 1)))), (5, .int (nI (((40 * u) + (xn Z 517 u)) - 1))), (0, .ref (ad 10 0)), (1, .int (nI u)), (2, .int what), (3, .long v)]) hx hb d_Mod_end_67 hl (by decide) rfl (fun ls hl => ?_)
          refine lv_aload_n hx hb d_Mod_end_69 rfl (lv_at hl 3 rfl) ?_
          refine zget hC hd (e_mod hm.1) rfl i_Mod 8 (by decide) q_661 (Or.inl rfl) (v := .ref (ad 11 8)) rfl d_Mod_end_70 ?_
          refine lv_iload hx hb d_Mod_end_73 (lv_at hl 1 rfl) ?_
          refine lv_iload hx hb d_Mod_end_75 (lv_at hl 0 rfl) ?_
          refine lv_if_eq (tgt := 90) hx hb d_Mod_end_77 (by decide) (fun c => absurd c (by decide)) (fun _ => ?_)
          refine lv_aload_n hx hb d_Mod_end_80 rfl (lv_at hl 3 rfl) ?_
          refine zget hC hd (e_mod hm.1) rfl i_Mod 8 (by decide) q_661 (Or.inl rfl) (v := .ref (ad 11 8)) rfl d_Mod_end_81 ?_
          refine lv_iload hx hb d_Mod_end_84 (lv_at hl 1 rfl) ?_
          refine ziaI (k := xn Z 518 (((40 * u) + (xn Z 517 u)) - 1)) (f := xi Z 508) hC hd (e_m8 hm.2) (by omega) (by decide) d_Mod_end_86 ?_
          refine lv_goto (tgt := 94) hx hb d_Mod_end_87 (by decide) ?_
          refine ziaS (k := xn Z 518 (((40 * u) + (xn Z 517 u)) - 1)) (Z' := (si Z 508 (xn Z 518 (((40 * u) + (xn Z 517 u)) - 1)) (xi Z 508 (xn Z 518 (((40 * u) + (xn Z 517 u)) - 1))))) hC hd (e_m8 hm.2) (by omega) (by decide) (u_m8 hm.2) d_Mod_end_94 (fun H locs hd => ?_)
          refine lv_aload_n hx hb d_Mod_end_95 rfl (lv_at hl 3 rfl) ?_
          refine zget hC hd (e_mod hm.1) rfl i_Mod 6 (by decide) q_659 (Or.inl rfl) (v := .ref (ad 11 6)) rfl d_Mod_end_96 ?_
          refine lv_iload hx hb d_Mod_end_99 (lv_at hl 1 rfl) ?_
          refine lv_iload_n hx hb d_Mod_end_101 rfl (lv_at hl 5 rfl) ?_
          refine ziaS (k := xn Z 518 (((40 * u) + (xn Z 517 u)) - 1)) (Z' := (si (si Z 508 (xn Z 518 (((40 * u) + (xn Z 517 u)) - 1)) (xi Z 508 (xn Z 518 (((40 * u) + (xn Z 517 u)) - 1)))) 506 (xn Z 518 (((40 * u) + (xn Z 517 u)) - 1)) what)) hC hd (e_m6 hm.2) (by omega) (by decide) (u_m6 hm.2) d_Mod_end_102 (fun H locs hd => ?_)
          refine lv_aload_n hx hb d_Mod_end_103 rfl (lv_at hl 3 rfl) ?_
          refine zget hC hd (e_mod hm.1) rfl i_Mod 14 (by decide) q_667 (Or.inl rfl) (v := .ref (ad 11 14)) rfl d_Mod_end_104 ?_
          refine lv_iload hx hb d_Mod_end_107 (lv_at hl 1 rfl) ?_
          refine lv_lload_n hx hb d_Mod_end_109 rfl (lv_at hl 6 rfl) ?_
          refine zlaS (k := xn Z 518 (((40 * u) + (xn Z 517 u)) - 1)) (Z' := (sl (si (si Z 508 (xn Z 518 (((40 * u) + (xn Z 517 u)) - 1)) (xi Z 508 (xn Z 518 (((40 * u) + (xn Z 517 u)) - 1)))) 506 (xn Z 518 (((40 * u) + (xn Z 517 u)) - 1)) what) 514 (xn Z 518 (((40 * u) + (xn Z 517 u)) - 1)) v)) hC hd (e_m14 hm.2) (by omega) (by decide) (u_m14 hm.2) d_Mod_end_110 (fun H locs hd => ?_)
          refine lv_aload_n hx hb d_Mod_end_111 rfl (lv_at hl 3 rfl) ?_
          refine zget hC hd (e_mod hm.1) rfl i_Mod 16 (by decide) q_669 (Or.inl rfl) (v := .ref (ad 11 16)) rfl d_Mod_end_112 ?_
          refine lv_iload hx hb d_Mod_end_115 (lv_at hl 1 rfl) ?_
          refine lv_iconst (v := 1) hx hb d_Mod_end_117 (by decide) ?_
          refine zzaS (y := 1) (k := xn Z 518 (((40 * u) + (xn Z 517 u)) - 1)) (Z' := (si (sl (si (si Z 508 (xn Z 518 (((40 * u) + (xn Z 517 u)) - 1)) (xi Z 508 (xn Z 518 (((40 * u) + (xn Z 517 u)) - 1)))) 506 (xn Z 518 (((40 * u) + (xn Z 517 u)) - 1)) what) 514 (xn Z 518 (((40 * u) + (xn Z 517 u)) - 1)) v) 516 (xn Z 518 (((40 * u) + (xn Z 517 u)) - 1)) 1)) hC hd (by decide) (e_m16 hm.2) (by omega) (by decide) (u_m16 hm.2) d_Mod_end_118 (fun H locs hd => ?_)
          refine lv_aload_n hx hb d_Mod_end_119 rfl (lv_at hl 3 rfl) ?_
          refine zget hC hd (e_mod hm.1) rfl i_Mod 7 (by decide) q_660 (Or.inl rfl) (v := .ref (ad 11 7)) rfl d_Mod_end_120 ?_
          refine lv_iload hx hb d_Mod_end_123 (lv_at hl 1 rfl) ?_
          refine lv_aload_n hx hb d_Mod_end_125 rfl (lv_at hl 3 rfl) ?_
          refine zget hC hd (e_mod hm.1) rfl i_Mod 1 (by decide) q_654 (Or.inl rfl) (v := .int (xi Z 21 0)) rfl d_Mod_end_126 ?_
          refine ziaS (k := xn Z 518 (((40 * u) + (xn Z 517 u)) - 1)) (Z' := (si (si (sl (si (si Z 508 (xn Z 518 (((40 * u) + (xn Z 517 u)) - 1)) (xi Z 508 (xn Z 518 (((40 * u) + (xn Z 517 u)) - 1)))) 506 (xn Z 518 (((40 * u) + (xn Z 517 u)) - 1)) what) 514 (xn Z 518 (((40 * u) + (xn Z 517 u)) - 1)) v) 516 (xn Z 518 (((40 * u) + (xn Z 517 u)) - 1)) 1) 507 (xn Z 518 (((40 * u) + (xn Z 517 u)) - 1)) (xi Z 21 0))) hC hd (e_m7 hm.2) (by omega) (by decide) (u_m7 hm.2) d_Mod_end_129 (fun H locs hd => ?_)
          refine lv_aload_n hx hb d_Mod_end_130 rfl (lv_at hl 3 rfl) ?_
          refine zget hC hd (e_mod hm.1) rfl i_Mod 10 (by decide) q_663 (Or.inl rfl) (v := .ref (ad 11 10)) rfl d_Mod_end_131 ?_
          refine lv_iload hx hb d_Mod_end_134 (lv_at hl 1 rfl) ?_
          refine lv_aload_n hx hb d_Mod_end_136 rfl (lv_at hl 3 rfl) ?_
          refine zget hC hd (e_mod hm.1) rfl i_Mod 19 (by decide) q_672 (Or.inl rfl) (v := .ref (ad 11 19)) rfl d_Mod_end_137 ?_
          refine lv_iload hx hb d_Mod_end_140 (lv_at hl 2 rfl) ?_
          refine ziaN (k := ((40 * u) + (xn Z 517 u)) - 1) (f := xn Z 519) hC hd (e_m19 hm.2) (by omega) (by decide) d_Mod_end_142 ?_
          refine ziaS (k := xn Z 518 (((40 * u) + (xn Z 517 u)) - 1)) (Z' := (sn (si (si (sl (si (si Z 508 (xn Z 518 (((40 * u) + (xn Z 517 u)) - 1)) (xi Z 508 (xn Z 518 (((40 * u) + (xn Z 517 u)) - 1)))) 506 (xn Z 518 (((40 * u) + (xn Z 517 u)) - 1)) what) 514 (xn Z 518 (((40 * u) + (xn Z 517 u)) - 1)) v) 516 (xn Z 518 (((40 * u) + (xn Z 517 u)) - 1)) 1) 507 (xn Z 518 (((40 * u) + (xn Z 517 u)) - 1)) (xi Z 21 0)) 510 (xn Z 518 (((40 * u) + (xn Z 517 u)) - 1)) (xn Z 519 (((40 * u) + (xn Z 517 u)) - 1)))) hC hd (e_m10 hm.2) (by omega) (by decide) (u_m10 hm.2) d_Mod_end_143 (fun H locs hd => ?_)
          refine lv_iconst (v := 0) hx hb d_Mod_end_144 (by decide) ?_
          refine lv_istore (lv' := [(8, .int 0), (7, .int 1), (6, .int (nI (xn Z 518 (((40 * u) + (xn Z 517 u)) - 1)))), (5, .int (nI (((40 * u) + (xn Z 517 u)) - 1))), (0, .ref (ad 10 0)), (1, .int (nI u)), (2, .int what), (3, .long v)]) hx hb d_Mod_end_145 hl (by decide) rfl (fun ls hl => ?_)
          have hsv : m_sameV Z (xn Z 518 (40 * u + xn Z 517 u - 1)) what v = 1 := by unfold m_sameV; (repeat (first | (rw [if_pos]; rotate_left; first | assumption | decide) | (rw [if_neg]; rotate_left; first | assumption | decide))) <;> (try rfl)
          have hz6 : (sn (si (si (sl (si (si Z 508 (xn Z 518 (((40 * u) + (xn Z 517 u)) - 1)) (xi Z 508 (xn Z 518 (((40 * u) + (xn Z 517 u)) - 1)))) 506 (xn Z 518 (((40 * u) + (xn Z 517 u)) - 1)) what) 514 (xn Z 518 (((40 * u) + (xn Z 517 u)) - 1)) v) 516 (xn Z 518 (((40 * u) + (xn Z 517 u)) - 1)) 1) 507 (xn Z 518 (((40 * u) + (xn Z 517 u)) - 1)) (xi Z 21 0)) 510 (xn Z 518 (((40 * u) + (xn Z 517 u)) - 1)) (xn Z 519 (((40 * u) + (xn Z 517 u)) - 1))) = m_endA Z (xn Z 518 (40 * u + xn Z 517 u - 1)) (40 * u + xn Z 517 u - 1) what v := by unfold m_endA; rw [hsv]; (repeat (first | (rw [if_pos]; rotate_left; first | assumption | decide) | (rw [if_neg]; rotate_left; first | assumption | decide))) <;> (try rfl)
          rw [hz6] at hd
          refine lp_Mod_end (xn Z 518 (40 * u + xn Z 517 u - 1)) (40 * u + xn Z 517 u - 1) u 1 what v (xn Z 519 (40 * u + xn Z 517 u - 1)) hk (by omega) hf hC (xn Z 519 (40 * u + xn Z 517 u - 1)) 0 (m_endA Z (xn Z 518 (40 * u + xn Z 517 u - 1)) (40 * u + xn Z 517 u - 1) what v) ls H locs (by omega) hm rfl hd (lv_sub hl [0, 1, 2, 3, 4, 5, 6, 7] rfl) (fun ls H locs hd hl => ?_)
          have hm2 : ML (m_copy (xn Z 518 (40 * u + xn Z 517 u - 1)) (40 * u + xn Z 517 u - 1) (m_endA Z (xn Z 518 (40 * u + xn Z 517 u - 1)) (40 * u + xn Z 517 u - 1) what v) 0 (xn Z 519 (40 * u + xn Z 517 u - 1))) := m_copy_ML (show ML (m_endA Z (xn Z 518 (40 * u + xn Z 517 u - 1)) (40 * u + xn Z 517 u - 1) what v) from hm)
          have hh2 : xn (m_copy (xn Z 518 (40 * u + xn Z 517 u - 1)) (40 * u + xn Z 517 u - 1) (m_endA Z (xn Z 518 (40 * u + xn Z 517 u - 1)) (40 * u + xn Z 517 u - 1) what v) 0 (xn Z 519 (40 * u + xn Z 517 u - 1))) 517 u = xn Z 517 u := m_copy_xn _ _ _ _ _ _ _ (by decide)
          refine lv_aload_n hx hb d_Mod_end_191 rfl (lv_at hl 4 rfl) ?_
          refine zget hC hd (e_mod hm2.1) rfl i_Mod 12 (by decide) q_665 (Or.inl rfl) (v := .ref (ad 11 12)) rfl d_Mod_end_192 ?_
          refine lv_iload hx hb d_Mod_end_195 (lv_at hl 2 rfl) ?_
          refine lv_dup2_11 hx hb d_Mod_end_197 rfl rfl ?_
          refine ziaI (k := xn Z 518 (40 * u + xn Z 517 u - 1)) (f := xi (m_copy (xn Z 518 (40 * u + xn Z 517 u - 1)) (40 * u + xn Z 517 u - 1) (m_endA Z (xn Z 518 (40 * u + xn Z 517 u - 1)) (40 * u + xn Z 517 u - 1) what v) 0 (xn Z 519 (40 * u + xn Z 517 u - 1))) 512) hC hd (e_m12 hm2.2) (by omega) (by decide) d_Mod_end_198 ?_
          refine lv_iconst (v := 1) hx hb d_Mod_end_199 (by decide) ?_
          refine lv_iadd hx hb d_Mod_end_200 ?_
          refine ziaS (k := xn Z 518 (40 * u + xn Z 517 u - 1)) (Z' := (si (m_copy (xn Z 518 (40 * u + xn Z 517 u - 1)) (40 * u + xn Z 517 u - 1) (m_endA Z (xn Z 518 (40 * u + xn Z 517 u - 1)) (40 * u + xn Z 517 u - 1) what v) 0 (xn Z 519 (40 * u + xn Z 517 u - 1))) 512 (xn Z 518 (40 * u + xn Z 517 u - 1)) ((xi (m_copy (xn Z 518 (40 * u + xn Z 517 u - 1)) (40 * u + xn Z 517 u - 1) (m_endA Z (xn Z 518 (40 * u + xn Z 517 u - 1)) (40 * u + xn Z 517 u - 1) what v) 0 (xn Z 519 (40 * u + xn Z 517 u - 1))) 512 (xn Z 518 (40 * u + xn Z 517 u - 1))) + 1))) hC hd (e_m12 hm2.2) (by omega) (by decide) (u_m12 hm2.2) d_Mod_end_201 (fun H locs hd => ?_)
          refine lv_aload_n hx hb d_Mod_end_202 rfl (lv_at hl 4 rfl) ?_
          refine zget hC hd (e_mod hm2.1) rfl i_Mod 17 (by decide) q_670 (Or.inl rfl) (v := .ref (ad 11 17)) rfl d_Mod_end_203 ?_
          refine lv_iload_n hx hb d_Mod_end_206 rfl (lv_at hl 5 rfl) ?_
          refine lv_dup2_11 hx hb d_Mod_end_207 rfl rfl ?_
          refine ziaN (k := u) (f := xn (m_copy (xn Z 518 (40 * u + xn Z 517 u - 1)) (40 * u + xn Z 517 u - 1) (m_endA Z (xn Z 518 (40 * u + xn Z 517 u - 1)) (40 * u + xn Z 517 u - 1) what v) 0 (xn Z 519 (40 * u + xn Z 517 u - 1))) 517) hC hd (e_m17 hm2.2) (by omega) (by decide) d_Mod_end_208 ?_
          refine lv_iconst (v := 1) hx hb d_Mod_end_209 (by decide) ?_
          refine zsubN (x := xn (m_copy (xn Z 518 (40 * u + xn Z 517 u - 1)) (40 * u + xn Z 517 u - 1) (m_endA Z (xn Z 518 (40 * u + xn Z 517 u - 1)) (40 * u + xn Z 517 u - 1) what v) 0 (xn Z 519 (40 * u + xn Z 517 u - 1))) 517 u) (y := 1) (by omega) hx hb d_Mod_end_210 ?_
          refine ziaS (k := u) (Z' := (sn (si (m_copy (xn Z 518 (40 * u + xn Z 517 u - 1)) (40 * u + xn Z 517 u - 1) (m_endA Z (xn Z 518 (40 * u + xn Z 517 u - 1)) (40 * u + xn Z 517 u - 1) what v) 0 (xn Z 519 (40 * u + xn Z 517 u - 1))) 512 (xn Z 518 (40 * u + xn Z 517 u - 1)) ((xi (m_copy (xn Z 518 (40 * u + xn Z 517 u - 1)) (40 * u + xn Z 517 u - 1) (m_endA Z (xn Z 518 (40 * u + xn Z 517 u - 1)) (40 * u + xn Z 517 u - 1) what v) 0 (xn Z 519 (40 * u + xn Z 517 u - 1))) 512 (xn Z 518 (40 * u + xn Z 517 u - 1))) + 1)) 517 u ((xn (m_copy (xn Z 518 (40 * u + xn Z 517 u - 1)) (40 * u + xn Z 517 u - 1) (m_endA Z (xn Z 518 (40 * u + xn Z 517 u - 1)) (40 * u + xn Z 517 u - 1) what v) 0 (xn Z 519 (40 * u + xn Z 517 u - 1))) 517 u) - 1))) hC hd (e_m17 hm2.2) (by omega) (by decide) (u_m17 hm2.2) d_Mod_end_211 (fun H locs hd => ?_)
          refine lv_iconst (v := 2) hx hb d_Mod_end_212 (by decide) ?_
          exact zfi hC hd hr hlk d_Mod_end_213 rfl rfl
set_option maxHeartbeats 4000000 in
theorem c_Mod_check (l : Launch) (G : Gt) (ad : Nat → Nat → Nat) (ow : Nat → Nat × Nat) (Z : Zt) (hm : ML Z) (hI : MI Z) (u i0 : Nat) (hu : u < 5) (hi : i0 < 200) (hh1 : 1 ≤ xn Z 517 u) (hfa : ¬ xn Z 519 i0 = xn Z 510 (xn Z 518 i0) → xn Z 519 i0 < 8) (hh : ∀ k, k < 40 → m_pileOf Z k = -1 → xn Z 517 u < 40) : Met l y_Mod_check w_Mod_check ({ frames := 2, cells := 0, slots := 0, locals := 46 }) (zPc G ad ow Z [.ref (ad 10 0), .int (nI u), .int (nI i0)]) (Qd G ad ow ((m_check Z u i0).1) (some (.int (m_check Z u i0).2))) 0 0 (zA G) := by
  refine zopen (cc := b_Mod_check) (maxL := 5) (ret := (some FieldType.int)) (by decide) rfl (Nat.le_of_ble_eq_true rfl) ?_
  intro p e s m below meth c ls hC hr hlk hnm hd hl
  have hC : Cx G p c m s _ "KeyGraphModel" b_Mod_check 5 := hC
  have hl : lv_has ls 5 [(0, .ref (ad 10 0)), (1, .int (nI u)), (2, .int (nI i0))] := hl
  have hx := hC.1
  have hb := hC.2.1
  have h1 := hI.2.2.2.2.2.2.1 i0
  have h2 := hI.2.2.2.1 (xn Z 518 i0)
  have h3 := hI.2.2.2.2.2.2.2.1 i0
  have h5 := hI.2.2.2.2.1 (8 * xn Z 518 i0 + xn Z 519 i0)
  have h6 := hI.2.2.1 (8 * xn Z 518 i0 + xn Z 511 (8 * xn Z 518 i0 + xn Z 519 i0))
  refine lv_aload_n hx hb d_Mod_check_0 rfl (lv_at hl 0 rfl) ?_
  refine zget hC hd (e_mod hm.1) rfl i_Mod 18 (by decide) q_671 (Or.inl rfl) (v := .ref (ad 11 18)) rfl d_Mod_check_1 ?_
  refine lv_iload_n hx hb d_Mod_check_4 rfl (lv_at hl 2 rfl) ?_
  refine ziaN (k := i0) (f := xn Z 518) hC hd (e_m18 hm.2) (by omega) (by decide) d_Mod_check_5 ?_
  refine lv_istore_n (lv' := [(3, .int (nI (xn Z 518 i0))), (0, .ref (ad 10 0)), (1, .int (nI u)), (2, .int (nI i0))]) hx hb d_Mod_check_6 rfl hl (by decide) rfl (fun ls hl => ?_)
  refine lv_aload_n hx hb d_Mod_check_7 rfl (lv_at hl 1 rfl) ?_
  refine zget hC hd (e_mod hm.1) rfl i_Mod 19 (by decide) q_672 (Or.inl rfl) (v := .ref (ad 11 19)) rfl d_Mod_check_8 ?_
  refine lv_iload_n hx hb d_Mod_check_11 rfl (lv_at hl 3 rfl) ?_
  refine ziaN (k := i0) (f := xn Z 519) hC hd (e_m19 hm.2) (by omega) (by decide) d_Mod_check_12 ?_
  refine lv_aload_n hx hb d_Mod_check_13 rfl (lv_at hl 1 rfl) ?_
  refine zget hC hd (e_mod hm.1) rfl i_Mod 10 (by decide) q_663 (Or.inl rfl) (v := .ref (ad 11 10)) rfl d_Mod_check_14 ?_
  refine lv_iload_n hx hb d_Mod_check_17 rfl (lv_at hl 0 rfl) ?_
  refine ziaN (k := xn Z 518 i0) (f := xn Z 510) hC hd (e_m10 hm.2) (by omega) (by decide) d_Mod_check_18 ?_
  refine zc_ne (x := xn Z 519 i0) (y := xn Z 510 (xn Z 518 i0)) (tgt := 54) (by omega) (by omega) hx hb d_Mod_check_19 (by decide) (fun c19 => ?_) (fun c19 => ?_)
  · have h9 := hfa c19
    refine lv_aload_n hx hb d_Mod_check_54 rfl (lv_at hl 1 rfl) ?_
    refine lv_iload_n hx hb d_Mod_check_55 rfl (lv_at hl 0 rfl) ?_
    refine lv_aload_n hx hb d_Mod_check_56 rfl (lv_at hl 1 rfl) ?_
    refine zget hC hd (e_mod hm.1) rfl i_Mod 11 (by decide) q_664 (Or.inl rfl) (v := .ref (ad 11 11)) rfl d_Mod_check_57 ?_
    refine lv_bipush (v := 8) hx hb d_Mod_check_60 (by decide) ?_
    refine lv_iload_n hx hb d_Mod_check_62 rfl (lv_at hl 0 rfl) ?_
    refine zmulN (x := 8) (y := xn Z 518 i0) hx hb d_Mod_check_63 ?_
    refine lv_aload_n hx hb d_Mod_check_64 rfl (lv_at hl 1 rfl) ?_
    refine zget hC hd (e_mod hm.1) rfl i_Mod 19 (by decide) q_672 (Or.inl rfl) (v := .ref (ad 11 19)) rfl d_Mod_check_65 ?_
    refine lv_iload_n hx hb d_Mod_check_68 rfl (lv_at hl 3 rfl) ?_
    refine ziaN (k := i0) (f := xn Z 519) hC hd (e_m19 hm.2) (by omega) (by decide) d_Mod_check_69 ?_
    refine zaddN (x := 8 * (xn Z 518 i0)) (y := xn Z 519 i0) hx hb d_Mod_check_70 ?_
    refine ziaN (k := (8 * (xn Z 518 i0)) + (xn Z 519 i0)) (f := xn Z 511) hC hd (e_m11 hm.2) (by omega) (by decide) d_Mod_check_71 ?_
    refine zb_i (r := (nI (xn Z 505 (8 * (xn Z 518 i0) + (xn Z 511 ((8 * (xn Z 518 i0)) + (xn Z 519 i0))))))) hd (zrunV (n := 2) (rest := []) hC hd (e_mod hm.1) rfl (c_Mod_rowKey l G ad ow Z hm (xn Z 518 i0) (xn Z 511 ((8 * (xn Z 518 i0)) + (xn Z 519 i0))) (by omega) (by omega)) q_762 q_764 qp_21 q_6 q_765 rfl rfl rfl (by decide +kernel) ⟨by decide, by decide⟩ rfl hl.1 (Nat.le_of_ble_eq_true rfl) d_Mod_check_72 ⟨by decide, by decide⟩) (fun H locs hd => ?_)
    refine lv_istore (lv' := [(4, .int (nI (xn Z 505 (8 * (xn Z 518 i0) + (xn Z 511 ((8 * (xn Z 518 i0)) + (xn Z 519 i0))))))), (3, .int (nI (xn Z 518 i0))), (0, .ref (ad 10 0)), (1, .int (nI u)), (2, .int (nI i0))]) hx hb d_Mod_check_75 hl (by decide) rfl (fun ls hl => ?_)
    refine lv_aload_n hx hb d_Mod_check_77 rfl (lv_at hl 2 rfl) ?_
    refine lv_iload hx hb d_Mod_check_78 (lv_at hl 0 rfl) ?_
    refine zb_i (r := (m_isSure Z (xn Z 505 (8 * xn Z 518 i0 + xn Z 511 (8 * xn Z 518 i0 + xn Z 519 i0))))) hd (zrunV (n := 1) (rest := []) hC hd (e_mod hm.1) rfl (c_Mod_isSure l G ad ow Z hm (xn Z 505 (8 * (xn Z 518 i0) + (xn Z 511 ((8 * (xn Z 518 i0)) + (xn Z 519 i0))))) (by omega) (m_isSure Z (xn Z 505 (8 * xn Z 518 i0 + xn Z 511 (8 * xn Z 518 i0 + xn Z 519 i0)))) rfl) q_801 q_803 qp_26 q_6 q_804 rfl rfl rfl (by decide +kernel) ⟨by decide, by decide⟩ rfl hl.1 (Nat.le_of_ble_eq_true rfl) d_Mod_check_80 ⟨by decide, by decide⟩) (fun H locs hd => ?_)
    refine lv_if_ne (tgt := 94) hx hb d_Mod_check_83 (by decide) (fun c83 => ?_) (fun c83 => ?_)
    · refine lv_aload_n hx hb d_Mod_check_94 rfl (lv_at hl 2 rfl) ?_
      refine zget hC hd (e_mod hm.1) rfl i_Mod 8 (by decide) q_661 (Or.inl rfl) (v := .ref (ad 11 8)) rfl d_Mod_check_95 ?_
      refine lv_iload hx hb d_Mod_check_98 (lv_at hl 0 rfl) ?_
      refine ziaI (k := xn Z 505 (8 * (xn Z 518 i0) + (xn Z 511 ((8 * (xn Z 518 i0)) + (xn Z 519 i0))))) (f := xi Z 508) hC hd (e_m8 hm.2) (by omega) (by decide) d_Mod_check_100 ?_
      refine lv_aload_n hx hb d_Mod_check_101 rfl (lv_at hl 2 rfl) ?_
      refine zget hC hd (e_mod hm.1) rfl i_Mod 7 (by decide) q_660 (Or.inl rfl) (v := .ref (ad 11 7)) rfl d_Mod_check_102 ?_
      refine lv_iload_n hx hb d_Mod_check_105 rfl (lv_at hl 1 rfl) ?_
      refine ziaI (k := xn Z 518 i0) (f := xi Z 507) hC hd (e_m7 hm.2) (by omega) (by decide) d_Mod_check_106 ?_
      refine lv_icmp_le (tgt := 126) hx hb d_Mod_check_107 (by decide) (fun c107 => ?_) (fun c107 => ?_)
      · refine lv_aload_n hx hb d_Mod_check_126 rfl (lv_at hl 2 rfl) ?_
        refine zget hC hd (e_mod hm.1) rfl i_Mod 19 (by decide) q_672 (Or.inl rfl) (v := .ref (ad 11 19)) rfl d_Mod_check_127 ?_
        refine lv_iload_n hx hb d_Mod_check_130 rfl (lv_at hl 4 rfl) ?_
        refine lv_dup2_11 hx hb d_Mod_check_131 rfl rfl ?_
        refine ziaN (k := i0) (f := xn Z 519) hC hd (e_m19 hm.2) (by omega) (by decide) d_Mod_check_132 ?_
        refine lv_iconst (v := 1) hx hb d_Mod_check_133 (by decide) ?_
        refine zaddN (x := xn Z 519 i0) (y := 1) hx hb d_Mod_check_134 ?_
        refine ziaS (k := i0) (Z' := (sn Z 519 i0 ((xn Z 519 i0) + 1))) hC hd (e_m19 hm.2) (by omega) (by decide) (u_m19 hm.2) d_Mod_check_135 (fun H locs hd => ?_)
        refine lv_iconst (v := 4) hx hb d_Mod_check_136 (by decide) ?_
        exact zfi hC hd hr hlk d_Mod_check_137 (by unfold m_check; (repeat (first | (rw [if_pos]; rotate_left; first | assumption | decide) | (rw [if_neg]; rotate_left; first | assumption | decide))) <;> (try rfl)) (by unfold m_check; (repeat (first | (rw [if_pos]; rotate_left; first | assumption | decide) | (rw [if_neg]; rotate_left; first | assumption | decide))) <;> (try rfl))
      · refine lv_aload_n hx hb d_Mod_check_110 rfl (lv_at hl 2 rfl) ?_
        refine zget hC hd (e_mod hm.1) rfl i_Mod 21 (by decide) q_674 (Or.inl rfl) (v := .ref (ad 11 21)) rfl d_Mod_check_111 ?_
        refine lv_iload_n hx hb d_Mod_check_114 rfl (lv_at hl 4 rfl) ?_
        refine lv_iconst (v := 1) hx hb d_Mod_check_115 (by decide) ?_
        refine zzaS (y := 1) (k := i0) (Z' := (si Z 521 i0 1)) hC hd (by decide) (e_m21 hm.2) (by omega) (by decide) (u_m21 hm.2) d_Mod_check_116 (fun H locs hd => ?_)
        refine lv_aload_n hx hb d_Mod_check_117 rfl (lv_at hl 2 rfl) ?_
        refine zget hC hd (e_mod hm.1) rfl i_Mod 19 (by decide) q_672 (Or.inl rfl) (v := .ref (ad 11 19)) rfl d_Mod_check_118 ?_
        refine lv_iload_n hx hb d_Mod_check_121 rfl (lv_at hl 4 rfl) ?_
        refine lv_iconst (v := 0) hx hb d_Mod_check_122 (by decide) ?_
        refine ziaS (k := i0) (Z' := (sn (si Z 521 i0 1) 519 i0 0)) hC hd (e_m19 hm.2) (by omega) (by decide) (u_m19 hm.2) d_Mod_check_123 (fun H locs hd => ?_)
        refine lv_iconst (v := 5) hx hb d_Mod_check_124 (by decide) ?_
        exact zfi hC hd hr hlk d_Mod_check_125 (by unfold m_check; (repeat (first | (rw [if_pos]; rotate_left; first | assumption | decide) | (rw [if_neg]; rotate_left; first | assumption | decide))) <;> (try rfl)) (by unfold m_check; (repeat (first | (rw [if_pos]; rotate_left; first | assumption | decide) | (rw [if_neg]; rotate_left; first | assumption | decide))) <;> (try rfl))
    · refine lv_aload_n hx hb d_Mod_check_86 rfl (lv_at hl 2 rfl) ?_
      refine lv_iload_n hx hb d_Mod_check_87 rfl (lv_at hl 3 rfl) ?_
      refine lv_iload hx hb d_Mod_check_88 (lv_at hl 0 rfl) ?_
      refine zb_i (r := ((m_await Z u (xn Z 505 (8 * (xn Z 518 i0) + (xn Z 511 ((8 * (xn Z 518 i0)) + (xn Z 519 i0)))))).2)) hd (zrunV (n := 2) (rest := []) hC hd (e_mod hm.1) rfl (c_Mod_await l G ad ow Z hm hI u (xn Z 505 (8 * (xn Z 518 i0) + (xn Z 511 ((8 * (xn Z 518 i0)) + (xn Z 519 i0))))) (by omega) (by omega) (hh _ (by omega))) q_825 q_827 qp_30 q_6 q_828 rfl rfl rfl (by decide +kernel) ⟨by decide, by decide⟩ rfl hl.1 (Nat.le_of_ble_eq_true rfl) d_Mod_check_90 ⟨by decide, by decide⟩) (fun H locs hd => ?_)
      exact zfi hC hd hr hlk d_Mod_check_93 (by unfold m_check; (repeat (first | (rw [if_pos]; rotate_left; first | assumption | decide) | (rw [if_neg]; rotate_left; first | assumption | decide))) <;> (try rfl)) (by unfold m_check; (repeat (first | (rw [if_pos]; rotate_left; first | assumption | decide) | (rw [if_neg]; rotate_left; first | assumption | decide))) <;> (try rfl))
  · refine lv_aload_n hx hb d_Mod_check_22 rfl (lv_at hl 1 rfl) ?_
    refine zget hC hd (e_mod hm.1) rfl i_Mod 7 (by decide) q_660 (Or.inl rfl) (v := .ref (ad 11 7)) rfl d_Mod_check_23 ?_
    refine lv_iload_n hx hb d_Mod_check_26 rfl (lv_at hl 0 rfl) ?_
    refine lv_aload_n hx hb d_Mod_check_27 rfl (lv_at hl 1 rfl) ?_
    refine zget hC hd (e_mod hm.1) rfl i_Mod 1 (by decide) q_654 (Or.inl rfl) (v := .int (xi Z 21 0)) rfl d_Mod_check_28 ?_
    refine ziaS (k := xn Z 518 i0) (Z' := (si Z 507 (xn Z 518 i0) (xi Z 21 0))) hC hd (e_m7 hm.2) (by omega) (by decide) (u_m7 hm.2) d_Mod_check_31 (fun H locs hd => ?_)
    refine lv_aload_n hx hb d_Mod_check_32 rfl (lv_at hl 1 rfl) ?_
    refine zget hC hd (e_mod hm.1) rfl i_Mod 13 (by decide) q_666 (Or.inl rfl) (v := .ref (ad 11 13)) rfl d_Mod_check_33 ?_
    refine lv_iload_n hx hb d_Mod_check_36 rfl (lv_at hl 0 rfl) ?_
    refine lv_dup2_11 hx hb d_Mod_check_37 rfl rfl ?_
    refine ziaI (k := xn Z 518 i0) (f := xi Z 513) hC hd (e_m13 hm.2) (by omega) (by decide) d_Mod_check_38 ?_
    refine lv_iconst (v := 1) hx hb d_Mod_check_39 (by decide) ?_
    refine lv_iadd hx hb d_Mod_check_40 ?_
    refine ziaS (k := xn Z 518 i0) (Z' := (si (si Z 507 (xn Z 518 i0) (xi Z 21 0)) 513 (xn Z 518 i0) ((xi Z 513 (xn Z 518 i0)) + 1))) hC hd (e_m13 hm.2) (by omega) (by decide) (u_m13 hm.2) d_Mod_check_41 (fun H locs hd => ?_)
    refine lv_aload_n hx hb d_Mod_check_42 rfl (lv_at hl 1 rfl) ?_
    refine zget hC hd (e_mod hm.1) rfl i_Mod 17 (by decide) q_670 (Or.inl rfl) (v := .ref (ad 11 17)) rfl d_Mod_check_43 ?_
    refine lv_iload_n hx hb d_Mod_check_46 rfl (lv_at hl 2 rfl) ?_
    refine lv_dup2_11 hx hb d_Mod_check_47 rfl rfl ?_
    refine ziaN (k := u) (f := xn Z 517) hC hd (e_m17 hm.2) (by omega) (by decide) d_Mod_check_48 ?_
    refine lv_iconst (v := 1) hx hb d_Mod_check_49 (by decide) ?_
    refine zsubN (x := xn Z 517 u) (y := 1) (by omega) hx hb d_Mod_check_50 ?_
    refine ziaS (k := u) (Z' := (sn (si (si Z 507 (xn Z 518 i0) (xi Z 21 0)) 513 (xn Z 518 i0) ((xi Z 513 (xn Z 518 i0)) + 1)) 517 u ((xn Z 517 u) - 1))) hC hd (e_m17 hm.2) (by omega) (by decide) (u_m17 hm.2) d_Mod_check_51 (fun H locs hd => ?_)
    refine lv_iconst (v := 2) hx hb d_Mod_check_52 (by decide) ?_
    exact zfi hC hd hr hlk d_Mod_check_53 (by unfold m_check; (repeat (first | (rw [if_pos]; rotate_left; first | assumption | decide) | (rw [if_neg]; rotate_left; first | assumption | decide))) <;> (try rfl)) (by unfold m_check; (repeat (first | (rw [if_pos]; rotate_left; first | assumption | decide) | (rw [if_neg]; rotate_left; first | assumption | decide))) <;> (try rfl))
set_option maxHeartbeats 4000000 in
theorem c_Mod_go (l : Launch) (G : Gt) (ad : Nat → Nat → Nat) (ow : Nat → Nat × Nat) (Z : Zt) (hm : ML Z) (hI : MI Z) (u : Nat) (hu : u < 5) (hG : GoOk Z u) (hfa : ¬ xn Z 519 (40 * u + xn Z 517 u - 1) = xn Z 510 (xn Z 518 (40 * u + xn Z 517 u - 1)) → xn Z 519 (40 * u + xn Z 517 u - 1) < 8) : Met l y_Mod_go w_Mod_go ({ frames := 3, cells := 0, slots := 0, locals := 72 }) (zPc G ad ow Z [.ref (ad 10 0), .int (nI u)]) (Qd G ad ow ((m_go Z u).1) (some (.int (m_go Z u).2))) 0 0 (zA G) := by
  refine zopen (cc := b_Mod_go) (maxL := 5) (ret := (some FieldType.int)) (by decide) rfl (Nat.le_of_ble_eq_true rfl) ?_
  intro p e s m below meth c ls hC hr hlk hnm hd hl
  have hC : Cx G p c m s _ "KeyGraphModel" b_Mod_go 5 := hC
  have hl : lv_has ls 5 [(0, .ref (ad 10 0)), (1, .int (nI u))] := hl
  have hx := hC.1
  have hb := hC.2.1
  have h4 := hI.2.2.2.2.2.1 u
  have h1 := hI.2.2.2.2.2.2.1 (40 * u + xn Z 517 u - 1)
  have h3 := hI.2.2.2.2.2.2.2.1 (40 * u + xn Z 517 u - 1)
  refine lv_aload_n hx hb d_Mod_go_0 rfl (lv_at hl 0 rfl) ?_
  refine zget hC hd (e_mod hm.1) rfl i_Mod 17 (by decide) q_670 (Or.inl rfl) (v := .ref (ad 11 17)) rfl d_Mod_go_1 ?_
  refine lv_iload_n hx hb d_Mod_go_4 rfl (lv_at hl 1 rfl) ?_
  refine ziaN (k := u) (f := xn Z 517) hC hd (e_m17 hm.2) (by omega) (by decide) d_Mod_go_5 ?_
  refine zi_ne (x := xn Z 517 u) (tgt := 11) (by omega) hx hb d_Mod_go_6 (by decide) (fun c6 => ?_) (fun c6 => ?_)
  · have c6' := zi_p c6
    refine lv_bipush (v := 40) hx hb d_Mod_go_11 (by decide) ?_
    refine lv_iload_n hx hb d_Mod_go_13 rfl (lv_at hl 1 rfl) ?_
    refine zmulN (x := 40) (y := u) hx hb d_Mod_go_14 ?_
    refine lv_aload_n hx hb d_Mod_go_15 rfl (lv_at hl 0 rfl) ?_
    refine zget hC hd (e_mod hm.1) rfl i_Mod 17 (by decide) q_670 (Or.inl rfl) (v := .ref (ad 11 17)) rfl d_Mod_go_16 ?_
    refine lv_iload_n hx hb d_Mod_go_19 rfl (lv_at hl 1 rfl) ?_
    refine ziaN (k := u) (f := xn Z 517) hC hd (e_m17 hm.2) (by omega) (by decide) d_Mod_go_20 ?_
    refine zaddN (x := 40 * u) (y := xn Z 517 u) hx hb d_Mod_go_21 ?_
    refine lv_iconst (v := 1) hx hb d_Mod_go_22 (by decide) ?_
    refine zsubN (x := (40 * u) + (xn Z 517 u)) (y := 1) (by omega) hx hb d_Mod_go_23 ?_
    refine lv_istore_n (lv' := [(2, .int (nI (((40 * u) + (xn Z 517 u)) - 1))), (0, .ref (ad 10 0)), (1, .int (nI u))]) hx hb d_Mod_go_24 rfl hl (by decide) rfl (fun ls hl => ?_)
    refine lv_aload_n hx hb d_Mod_go_25 rfl (lv_at hl 1 rfl) ?_
    refine zget hC hd (e_mod hm.1) rfl i_Mod 21 (by decide) q_674 (Or.inl rfl) (v := .ref (ad 11 21)) rfl d_Mod_go_26 ?_
    refine lv_iload_n hx hb d_Mod_go_29 rfl (lv_at hl 0 rfl) ?_
    refine zzaI (k := ((40 * u) + (xn Z 517 u)) - 1) (f := xi Z 521) hC hd (e_m21 hm.2) (by omega) (by decide) d_Mod_go_30 ?_
    refine lv_if_ne (tgt := 41) hx hb d_Mod_go_31 (by decide) (fun c31 => ?_) (fun c31 => ?_)
    · refine lv_aload_n hx hb d_Mod_go_41 rfl (lv_at hl 1 rfl) ?_
      refine lv_iload_n hx hb d_Mod_go_42 rfl (lv_at hl 0 rfl) ?_
      refine zb_i (r := (m_comes Z (40 * u + xn Z 517 u - 1))) hd (zrunV (n := 1) (rest := []) hC hd (e_mod hm.1) rfl (c_Mod_comes l G ad ow Z hm hI (((40 * u) + (xn Z 517 u)) - 1) (by omega) (m_comes Z (40 * u + xn Z 517 u - 1)) rfl) q_829 q_831 qp_31 q_6 q_832 rfl rfl rfl (by decide +kernel) ⟨by decide, by decide⟩ rfl hl.1 (Nat.le_of_ble_eq_true rfl) d_Mod_go_43 ⟨by decide, by decide⟩) (fun H locs hd => ?_)
      refine lv_istore_n (lv' := [(3, .int (m_comes Z (40 * u + xn Z 517 u - 1))), (2, .int (nI (((40 * u) + (xn Z 517 u)) - 1))), (0, .ref (ad 10 0)), (1, .int (nI u))]) hx hb d_Mod_go_46 rfl hl (by decide) rfl (fun ls hl => ?_)
      refine lv_iload_n hx hb d_Mod_go_47 rfl (lv_at hl 0 rfl) ?_
      refine lv_bipush (v := (-2)) hx hb d_Mod_go_48 (by decide) ?_
      refine lv_icmp_ne (tgt := 61) hx hb d_Mod_go_50 (by decide) (fun c50 => ?_) (fun c50 => ?_)
      · refine lv_iload_n hx hb d_Mod_go_61 rfl (lv_at hl 0 rfl) ?_
        refine lv_iconst (v := (-1)) hx hb d_Mod_go_62 (by decide) ?_
        refine lv_icmp_ne (tgt := 78) hx hb d_Mod_go_63 (by decide) (fun c63 => ?_) (fun c63 => ?_)
        · obtain ⟨j, ej, hj1, hj2⟩ := m_comes_nat hI c63 c50
          have h8 := hI.2.1 (xn Z 518 (40 * u + xn Z 517 u - 1))
          rw [ej] at hl
          have ejc : (m_comes Z (40 * u + xn Z 517 u - 1)).toNatClampNeg = j := by rw [ej, nI_clamp (by omega)]
          have h9 := hI.2.2.1 (8 * xn Z 518 (40 * u + xn Z 517 u - 1) + j)
          refine lv_aload_n hx hb d_Mod_go_78 rfl (lv_at hl 2 rfl) ?_
          refine lv_aload_n hx hb d_Mod_go_79 rfl (lv_at hl 2 rfl) ?_
          refine zget hC hd (e_mod hm.1) rfl i_Mod 18 (by decide) q_671 (Or.inl rfl) (v := .ref (ad 11 18)) rfl d_Mod_go_80 ?_
          refine lv_iload_n hx hb d_Mod_go_83 rfl (lv_at hl 1 rfl) ?_
          refine ziaN (k := ((40 * u) + (xn Z 517 u)) - 1) (f := xn Z 518) hC hd (e_m18 hm.2) (by omega) (by decide) d_Mod_go_84 ?_
          refine lv_iload_n hx hb d_Mod_go_85 rfl (lv_at hl 0 rfl) ?_
          refine zb_i (r := (nI (xn Z 505 (8 * (xn Z 518 (((40 * u) + (xn Z 517 u)) - 1)) + j)))) hd (zrunV (n := 2) (rest := []) hC hd (e_mod hm.1) rfl (c_Mod_rowKey l G ad ow Z hm (xn Z 518 (((40 * u) + (xn Z 517 u)) - 1)) j (by omega) (by omega)) q_762 q_764 qp_21 q_6 q_765 rfl rfl rfl (by decide +kernel) ⟨by decide, by decide⟩ rfl hl.1 (Nat.le_of_ble_eq_true rfl) d_Mod_go_86 ⟨by decide, by decide⟩) (fun H locs hd => ?_)
          refine lv_istore (lv' := [(4, .int (nI (xn Z 505 (8 * (xn Z 518 (((40 * u) + (xn Z 517 u)) - 1)) + j)))), (3, .int (nI j)), (2, .int (nI (((40 * u) + (xn Z 517 u)) - 1))), (0, .ref (ad 10 0)), (1, .int (nI u))]) hx hb d_Mod_go_89 hl (by decide) rfl (fun ls hl => ?_)
          refine lv_aload_n hx hb d_Mod_go_91 rfl (lv_at hl 3 rfl) ?_
          refine lv_iload hx hb d_Mod_go_92 (lv_at hl 0 rfl) ?_
          refine zb_i (r := (m_isSure Z (xn Z 505 (8 * xn Z 518 (40 * u + xn Z 517 u - 1) + j)))) hd (zrunV (n := 1) (rest := []) hC hd (e_mod hm.1) rfl (c_Mod_isSure l G ad ow Z hm (xn Z 505 (8 * (xn Z 518 (((40 * u) + (xn Z 517 u)) - 1)) + j)) (by omega) (m_isSure Z (xn Z 505 (8 * xn Z 518 (40 * u + xn Z 517 u - 1) + j))) rfl) q_801 q_803 qp_26 q_6 q_804 rfl rfl rfl (by decide +kernel) ⟨by decide, by decide⟩ rfl hl.1 (Nat.le_of_ble_eq_true rfl) d_Mod_go_94 ⟨by decide, by decide⟩) (fun H locs hd => ?_)
          refine lv_if_ne (tgt := 108) hx hb d_Mod_go_97 (by decide) (fun c97 => ?_) (fun c97 => ?_)
          · refine lv_aload_n hx hb d_Mod_go_108 rfl (lv_at hl 3 rfl) ?_
            refine zget hC hd (e_mod hm.1) rfl i_Mod 20 (by decide) q_673 (Or.inl rfl) (v := .ref (ad 11 20)) rfl d_Mod_go_109 ?_
            refine lv_bipush (v := 8) hx hb d_Mod_go_112 (by decide) ?_
            refine lv_iload_n hx hb d_Mod_go_114 rfl (lv_at hl 2 rfl) ?_
            refine zmulN (x := 8) (y := ((40 * u) + (xn Z 517 u)) - 1) hx hb d_Mod_go_115 ?_
            refine lv_aload_n hx hb d_Mod_go_116 rfl (lv_at hl 3 rfl) ?_
            refine zget hC hd (e_mod hm.1) rfl i_Mod 19 (by decide) q_672 (Or.inl rfl) (v := .ref (ad 11 19)) rfl d_Mod_go_117 ?_
            refine lv_iload_n hx hb d_Mod_go_120 rfl (lv_at hl 2 rfl) ?_
            refine ziaN (k := ((40 * u) + (xn Z 517 u)) - 1) (f := xn Z 519) hC hd (e_m19 hm.2) (by omega) (by decide) d_Mod_go_121 ?_
            refine zaddN (x := 8 * (((40 * u) + (xn Z 517 u)) - 1)) (y := xn Z 519 (((40 * u) + (xn Z 517 u)) - 1)) hx hb d_Mod_go_122 ?_
            refine lv_iload_n hx hb d_Mod_go_123 rfl (lv_at hl 1 rfl) ?_
            refine ziaS (k := (8 * (((40 * u) + (xn Z 517 u)) - 1)) + (xn Z 519 (((40 * u) + (xn Z 517 u)) - 1))) (Z' := (sn Z 520 ((8 * (((40 * u) + (xn Z 517 u)) - 1)) + (xn Z 519 (((40 * u) + (xn Z 517 u)) - 1))) j)) hC hd (e_m20 hm.2) (by omega) (by decide) (u_m20 hm.2) d_Mod_go_124 (fun H locs hd => ?_)
            refine lv_aload_n hx hb d_Mod_go_125 rfl (lv_at hl 3 rfl) ?_
            refine zget hC hd (e_mod hm.1) rfl i_Mod 19 (by decide) q_672 (Or.inl rfl) (v := .ref (ad 11 19)) rfl d_Mod_go_126 ?_
            refine lv_iload_n hx hb d_Mod_go_129 rfl (lv_at hl 2 rfl) ?_
            refine lv_dup2_11 hx hb d_Mod_go_130 rfl rfl ?_
            refine ziaN (k := ((40 * u) + (xn Z 517 u)) - 1) (f := xn Z 519) hC hd (e_m19 hm.2) (by omega) (by decide) d_Mod_go_131 ?_
            refine lv_iconst (v := 1) hx hb d_Mod_go_132 (by decide) ?_
            refine zaddN (x := xn Z 519 (((40 * u) + (xn Z 517 u)) - 1)) (y := 1) hx hb d_Mod_go_133 ?_
            refine ziaS (k := ((40 * u) + (xn Z 517 u)) - 1) (Z' := (sn (sn Z 520 ((8 * (((40 * u) + (xn Z 517 u)) - 1)) + (xn Z 519 (((40 * u) + (xn Z 517 u)) - 1))) j) 519 (((40 * u) + (xn Z 517 u)) - 1) ((xn Z 519 (((40 * u) + (xn Z 517 u)) - 1)) + 1))) hC hd (e_m19 hm.2) (by omega) (by decide) (u_m19 hm.2) d_Mod_go_134 (fun H locs hd => ?_)
            refine lv_aload_n hx hb d_Mod_go_135 rfl (lv_at hl 3 rfl) ?_
            refine zget hC hd (e_mod hm.1) rfl i_Mod 6 (by decide) q_659 (Or.inl rfl) (v := .ref (ad 11 6)) rfl d_Mod_go_136 ?_
            refine lv_iload hx hb d_Mod_go_139 (lv_at hl 0 rfl) ?_
            refine ziaI (k := xn Z 505 (8 * (xn Z 518 (((40 * u) + (xn Z 517 u)) - 1)) + j)) (f := xi Z 506) hC hd (e_m6 hm.2) (by omega) (by decide) d_Mod_go_141 ?_
            refine lv_iconst (v := 1) hx hb d_Mod_go_142 (by decide) ?_
            refine lv_icmp_ne (tgt := 151) hx hb d_Mod_go_143 (by decide) (fun c143 => ?_) (fun c143 => ?_)
            · refine lv_aload_n hx hb d_Mod_go_151 rfl (lv_at hl 3 rfl) ?_
              refine lv_iload_n hx hb d_Mod_go_152 rfl (lv_at hl 4 rfl) ?_
              refine lv_iconst (v := 3) hx hb d_Mod_go_153 (by decide) ?_
              refine lv_lconst (v := 0) hx hb d_Mod_go_154 (by decide) ?_
              refine zb_i (r := 2) hd (zrunV (n := 3) (rest := []) hC hd (e_mod hm.1) rfl (c_Mod_end l G ad ow (sn (sn Z 520 ((8 * (((40 * u) + (xn Z 517 u)) - 1)) + (xn Z 519 (((40 * u) + (xn Z 517 u)) - 1))) j) 519 (((40 * u) + (xn Z 517 u)) - 1) ((xn Z 519 (((40 * u) + (xn Z 517 u)) - 1)) + 1)) hm u (by omega) (show 1 ≤ xn Z 517 u by omega) (show xn Z 517 u ≤ 40 by omega) h1 (show xn (sn (sn Z 520 (8 * (40 * u + xn Z 517 u - 1) + xn Z 519 (40 * u + xn Z 517 u - 1)) j) 519 (40 * u + xn Z 517 u - 1) (xn Z 519 (40 * u + xn Z 517 u - 1) + 1)) 519 (40 * u + xn Z 517 u - 1) ≤ 8 by rw [xn_sn, if_pos ⟨rfl, rfl⟩]; omega) 3 0) q_840 q_842 qp_33 q_6 q_843 rfl rfl rfl (by decide +kernel) ⟨by decide, by decide⟩ rfl hl.1 (Nat.le_of_ble_eq_true rfl) d_Mod_go_155 ⟨by decide, by decide⟩) (fun H locs hd => ?_)
              exact zfi hC hd hr hlk d_Mod_go_158 (by unfold m_go m_go1; rw [ejc]; unfold m_goW; (repeat (first | (rw [if_pos]; rotate_left; first | assumption | decide) | (rw [if_neg]; rotate_left; first | assumption | decide))) <;> (try rfl)) (by unfold m_go m_go1; rw [ejc]; unfold m_goW; (repeat (first | (rw [if_pos]; rotate_left; first | assumption | decide) | (rw [if_neg]; rotate_left; first | assumption | decide))) <;> (try rfl))
            · refine lv_bipush (v := 6) hx hb d_Mod_go_146 (by decide) ?_
              refine lv_goto (tgt := 158) hx hb d_Mod_go_148 (by decide) ?_
              exact zfi hC hd hr hlk d_Mod_go_158 (by unfold m_go m_go1; rw [ejc]; unfold m_goW; (repeat (first | (rw [if_pos]; rotate_left; first | assumption | decide) | (rw [if_neg]; rotate_left; first | assumption | decide))) <;> (try rfl)) (by unfold m_go m_go1; rw [ejc]; unfold m_goW; (repeat (first | (rw [if_pos]; rotate_left; first | assumption | decide) | (rw [if_neg]; rotate_left; first | assumption | decide))) <;> (try rfl))
          · refine lv_aload_n hx hb d_Mod_go_100 rfl (lv_at hl 3 rfl) ?_
            refine lv_iload_n hx hb d_Mod_go_101 rfl (lv_at hl 4 rfl) ?_
            refine lv_iload hx hb d_Mod_go_102 (lv_at hl 0 rfl) ?_
            refine zb_i (r := ((m_await Z u (xn Z 505 (8 * (xn Z 518 (((40 * u) + (xn Z 517 u)) - 1)) + j))).2)) hd (zrunV (n := 2) (rest := []) hC hd (e_mod hm.1) rfl (c_Mod_await l G ad ow Z hm hI u (xn Z 505 (8 * (xn Z 518 (((40 * u) + (xn Z 517 u)) - 1)) + j)) (by omega) (by omega) (hG.1 _ (by omega))) q_825 q_827 qp_30 q_6 q_828 rfl rfl rfl (by decide +kernel) ⟨by decide, by decide⟩ rfl hl.1 (Nat.le_of_ble_eq_true rfl) d_Mod_go_104 ⟨by decide, by decide⟩) (fun H locs hd => ?_)
            exact zfi hC hd hr hlk d_Mod_go_107 (by unfold m_go m_go1; rw [ejc]; unfold m_goW; (repeat (first | (rw [if_pos]; rotate_left; first | assumption | decide) | (rw [if_neg]; rotate_left; first | assumption | decide))) <;> (try rfl)) (by unfold m_go m_go1; rw [ejc]; unfold m_goW; (repeat (first | (rw [if_pos]; rotate_left; first | assumption | decide) | (rw [if_neg]; rotate_left; first | assumption | decide))) <;> (try rfl))
        · refine lv_aload_n hx hb d_Mod_go_66 rfl (lv_at hl 2 rfl) ?_
          refine lv_iload_n hx hb d_Mod_go_67 rfl (lv_at hl 3 rfl) ?_
          refine lv_iconst (v := 1) hx hb d_Mod_go_68 (by decide) ?_
          refine lv_aload_n hx hb d_Mod_go_69 rfl (lv_at hl 2 rfl) ?_
          refine lv_iload_n hx hb d_Mod_go_70 rfl (lv_at hl 1 rfl) ?_
          refine zb_l (r := (m_outcome Z (((40 * u) + (xn Z 517 u)) - 1))) hd (zrunV (n := 1) (rest := [.int 1, .int (nI u), .ref (ad 10 0)]) hC hd (e_mod hm.1) rfl (c_Mod_outcome l G ad ow Z hm hI (((40 * u) + (xn Z 517 u)) - 1) (by omega) (fun q j a b => hG.2 q j a b c63) (m_outcome Z (((40 * u) + (xn Z 517 u)) - 1)) rfl) q_844 q_846 qp_34 q_6 q_847 rfl rfl rfl (by decide +kernel) ⟨by decide, by decide⟩ rfl hl.1 (Nat.le_of_ble_eq_true rfl) d_Mod_go_71 ⟨by decide, by decide⟩) (fun H locs hd => ?_)
          refine zb_i (r := 2) hd (zrunV (n := 3) (rest := []) hC hd (e_mod hm.1) rfl (c_Mod_end l G ad ow Z hm u (by omega) (by omega) (by omega) (by omega) (by omega) 1 (m_outcome Z (((40 * u) + (xn Z 517 u)) - 1))) q_840 q_842 qp_33 q_6 q_843 rfl rfl rfl (by decide +kernel) ⟨by decide, by decide⟩ rfl hl.1 (Nat.le_of_ble_eq_true rfl) d_Mod_go_74 ⟨by decide, by decide⟩) (fun H locs hd => ?_)
          exact zfi hC hd hr hlk d_Mod_go_77 (by unfold m_go m_go1; (repeat (first | (rw [if_pos]; rotate_left; first | assumption | decide) | (rw [if_neg]; rotate_left; first | assumption | decide))) <;> (try rfl)) (by unfold m_go m_go1; (repeat (first | (rw [if_pos]; rotate_left; first | assumption | decide) | (rw [if_neg]; rotate_left; first | assumption | decide))) <;> (try rfl))
      · refine lv_aload_n hx hb d_Mod_go_53 rfl (lv_at hl 2 rfl) ?_
        refine lv_iload_n hx hb d_Mod_go_54 rfl (lv_at hl 3 rfl) ?_
        refine lv_iconst (v := 2) hx hb d_Mod_go_55 (by decide) ?_
        refine lv_lconst (v := 0) hx hb d_Mod_go_56 (by decide) ?_
        refine zb_i (r := 2) hd (zrunV (n := 3) (rest := []) hC hd (e_mod hm.1) rfl (c_Mod_end l G ad ow Z hm u (by omega) (by omega) (by omega) (by omega) (by omega) 2 0) q_840 q_842 qp_33 q_6 q_843 rfl rfl rfl (by decide +kernel) ⟨by decide, by decide⟩ rfl hl.1 (Nat.le_of_ble_eq_true rfl) d_Mod_go_57 ⟨by decide, by decide⟩) (fun H locs hd => ?_)
        exact zfi hC hd hr hlk d_Mod_go_60 (by unfold m_go m_go1; (repeat (first | (rw [if_pos]; rotate_left; first | assumption | decide) | (rw [if_neg]; rotate_left; first | assumption | decide))) <;> (try rfl)) (by unfold m_go m_go1; (repeat (first | (rw [if_pos]; rotate_left; first | assumption | decide) | (rw [if_neg]; rotate_left; first | assumption | decide))) <;> (try rfl))
    · refine lv_aload_n hx hb d_Mod_go_34 rfl (lv_at hl 1 rfl) ?_
      refine lv_iload_n hx hb d_Mod_go_35 rfl (lv_at hl 2 rfl) ?_
      refine lv_iload_n hx hb d_Mod_go_36 rfl (lv_at hl 0 rfl) ?_
      refine zb_i (r := ((m_check Z u (((40 * u) + (xn Z 517 u)) - 1)).2)) hd (zrunV (n := 2) (rest := []) hC hd (e_mod hm.1) rfl (c_Mod_check l G ad ow Z hm hI u (((40 * u) + (xn Z 517 u)) - 1) (by omega) (by omega) (by omega) hfa hG.1) q_821 q_823 qp_29 q_6 q_824 rfl rfl rfl (by decide +kernel) ⟨by decide, by decide⟩ rfl hl.1 (Nat.le_of_ble_eq_true rfl) d_Mod_go_37 ⟨by decide, by decide⟩) (fun H locs hd => ?_)
      exact zfi hC hd hr hlk d_Mod_go_40 (by unfold m_go m_go1; (repeat (first | (rw [if_pos]; rotate_left; first | assumption | decide) | (rw [if_neg]; rotate_left; first | assumption | decide))) <;> (try rfl)) (by unfold m_go m_go1; (repeat (first | (rw [if_pos]; rotate_left; first | assumption | decide) | (rw [if_neg]; rotate_left; first | assumption | decide))) <;> (try rfl))
  · have c6' := zi_z c6
    refine lv_iconst (v := 0) hx hb d_Mod_go_9 (by decide) ?_
    exact zfi hC hd hr hlk d_Mod_go_10 (by unfold m_go m_go1; (repeat (first | (rw [if_pos]; rotate_left; first | assumption | decide) | (rw [if_neg]; rotate_left; first | assumption | decide))) <;> (try rfl)) (by unfold m_go m_go1; (repeat (first | (rw [if_pos]; rotate_left; first | assumption | decide) | (rw [if_neg]; rotate_left; first | assumption | decide))) <;> (try rfl))
