def ML (Z : Zt) : Prop := 0 < xn Z 0 10 ∧ 25 ≤ xn Z 0 11
/-- bounds of the model's numbers -/
def MI (Z : Zt) : Prop := xn Z 20 0 ≤ 40 ∧ (∀ k, xn Z 504 k ≤ 8) ∧ (∀ j, xn Z 505 j < 40) ∧ (∀ k, xn Z 510 k ≤ 8) ∧ (∀ j, xn Z 511 j < 8) ∧ (∀ p, xn Z 517 p ≤ 40) ∧ (∀ e, xn Z 518 e < 40) ∧ (∀ e, xn Z 519 e ≤ 8) ∧ (∀ j, xn Z 520 j < 8) ∧ xn Z 21 0 ≤ 40 ∧ (∀ j, xn Z 522 j < 40)
def m_isKey (Z : Zt) (k : Int32) : Int32 := if k < 0 then 0 else if nI (xn Z 20 0) ≤ k then 0 else 1
def m_isLeaf (Z : Zt) (k : Int32) : Int32 := if m_isKey Z k = 0 then 0 else if xi Z 503 k.toNatClampNeg = -1 then 1 else 0
def m0 (Z : Zt) : Zt := si Z 20 0 0
def m_make (Z : Zt) (f : Int32) : Zt := sn (si (si (si (si Z 503 (xn Z 20 0) f) 507 (xn Z 20 0) (-1)) 508 (xn Z 20 0) (xi Z 21 0)) 509 (xn Z 20 0) (-1)) 20 0 (xn Z 20 0 + 1)
def m_leaf (Z : Zt) (v : Int64) : Zt × Int32 := if xn Z 20 0 = 40 then (m0 Z, -1) else (m_make (si (sl (m0 Z) 514 (xn Z 20 0) v) 506 (xn Z 20 0) 1) (-1), nI (xn Z 20 0))
def m_key (Z : Zt) (f : Int32) : Zt × Int32 := if xn Z 20 0 = 40 then (m0 Z, -1) else if f < 0 then (m0 Z, -1) else if f < 6 then (m_make (m0 Z) f, nI (xn Z 20 0)) else (m0 Z, -1)
theorem m_isKey_no {Z : Zt} {k : Int32} (h : m_isKey Z k = 0) (hn : xn Z 20 0 ≤ 40) : k < 0 ∨ nI (xn Z 20 0) ≤ k := by
  unfold m_isKey at h
  by_cases h1 : k < 0
  · exact Or.inl h1
  · by_cases h2 : nI (xn Z 20 0) ≤ k
    · exact Or.inr h2
    · rw [if_neg h1, if_neg h2] at h; exact absurd h (by decide)
theorem m_isKey_cases (Z : Zt) (k : Int32) (hn : xn Z 20 0 ≤ 40) : m_isKey Z k = 0 ∨ ∃ j, j < xn Z 20 0 ∧ k = nI j ∧ m_isKey Z k = 1 := by
  unfold m_isKey
  by_cases h1 : k < 0
  · exact Or.inl (if_pos h1)
  · by_cases h2 : nI (xn Z 20 0) ≤ k
    · exact Or.inl (by rw [if_neg h1, if_pos h2])
    · obtain ⟨j, hj, rfl⟩ := nI_of h1
      exact Or.inr ⟨j, Nat.not_le.mp fun q => h2 (nI_le q hj), rfl, by rw [if_neg h1, if_neg h2]⟩
theorem m_isKey_nI {Z : Zt} {j : Nat} (hn : xn Z 20 0 ≤ 40) (h : j < xn Z 20 0) : m_isKey Z (nI j) = 1 := by
  unfold m_isKey
  rw [if_neg (nI_pos (by omega)), if_neg (fun q => absurd ((nI_leI (by omega) (by omega)).mp q) (by omega))]

set_option maxHeartbeats 4000000 in
theorem c_Mod_thrown (l : Launch) (G : Gt) (ad : Nat → Nat → Nat) (ow : Nat → Nat × Nat) (Z : Zt) (hm : ML Z) : Met l y_Mod_thrown w_Mod_thrown ({ frames := 0, cells := 0, slots := 0, locals := 0 }) (zPc G ad ow Z [.ref (ad 10 0)]) (Qd G ad ow Z (some (.int (xi Z 20 0)))) 0 0 (zA G) := by
  refine zopen (cc := b_Mod_thrown) (maxL := 1) (ret := (some FieldType.int)) (by decide) rfl (Nat.le_of_ble_eq_true rfl) ?_
  intro p e s m below meth c ls hC hr hlk hnm hd hl
  have hC : Cx G p c m s _ "KeyGraphModel" b_Mod_thrown 1 := hC
  have hl : lv_has ls 1 [(0, .ref (ad 10 0))] := hl
  have hx := hC.1
  have hb := hC.2.1
  refine lv_aload_n hx hb d_Mod_thrown_0 rfl (lv_at hl 0 rfl) ?_
  refine zget hC hd (e_mod hm.1) rfl i_Mod 0 (by decide) q_653 (Or.inl rfl) (v := .int (xi Z 20 0)) rfl d_Mod_thrown_1 ?_
  exact zfi hC hd hr hlk d_Mod_thrown_4 rfl rfl
set_option maxHeartbeats 4000000 in
theorem c_Mod_isKey (l : Launch) (G : Gt) (ad : Nat → Nat → Nat) (ow : Nat → Nat × Nat) (Z : Zt) (hm : ML Z) (k : Int32) : Met l y_Mod_isKey w_Mod_isKey ({ frames := 0, cells := 0, slots := 0, locals := 0 }) (zPc G ad ow Z [.ref (ad 10 0), .int k]) (Qd G ad ow Z (some (.int (m_isKey Z k)))) 0 0 (zA G) := by
  refine zopen (cc := b_Mod_isKey) (maxL := 2) (ret := (some FieldType.boolean)) (by decide) rfl (Nat.le_of_ble_eq_true rfl) ?_
  intro p e s m below meth c ls hC hr hlk hnm hd hl
  have hC : Cx G p c m s _ "KeyGraphModel" b_Mod_isKey 2 := hC
  have hl : lv_has ls 2 [(0, .ref (ad 10 0)), (1, .int k)] := hl
  have hx := hC.1
  have hb := hC.2.1
  refine lv_iload_n hx hb d_Mod_isKey_0 rfl (lv_at hl 1 rfl) ?_
  refine lv_if_lt (tgt := 16) hx hb d_Mod_isKey_1 (by decide) (fun c1 => ?_) (fun c1 => ?_)
  · refine lv_iconst (v := 0) hx hb d_Mod_isKey_16 (by decide) ?_
    exact zfz hC hd hr hlk d_Mod_isKey_17 (by decide) (by simp only [m_isKey]; simp [c1]) rfl
  · refine lv_iload_n hx hb d_Mod_isKey_4 rfl (lv_at hl 1 rfl) ?_
    refine lv_aload_n hx hb d_Mod_isKey_5 rfl (lv_at hl 0 rfl) ?_
    refine zget hC hd (e_mod hm.1) rfl i_Mod 2 (by decide) q_655 (Or.inl rfl) (v := .int (nI (xn Z 20 0))) rfl d_Mod_isKey_6 ?_
    refine lv_icmp_ge (tgt := 16) hx hb d_Mod_isKey_9 (by decide) (fun c9 => ?_) (fun c9 => ?_)
    · refine lv_iconst (v := 0) hx hb d_Mod_isKey_16 (by decide) ?_
      exact zfz hC hd hr hlk d_Mod_isKey_17 (by decide) (by simp only [m_isKey]; simp [c1, c9]) rfl
    · refine lv_iconst (v := 1) hx hb d_Mod_isKey_12 (by decide) ?_
      refine lv_goto (tgt := 17) hx hb d_Mod_isKey_13 (by decide) ?_
      exact zfz hC hd hr hlk d_Mod_isKey_17 (by decide) (by simp only [m_isKey]; simp [c1, c9]) rfl
theorem c_Mod_isKey_r (l : Launch) (G : Gt) (ad : Nat → Nat → Nat) (ow : Nat → Nat × Nat) (Z : Zt) (hm : ML Z) (k : Int32) (r : Int32) (h : m_isKey Z k = r) : Met l y_Mod_isKey w_Mod_isKey ({ frames := 0, cells := 0, slots := 0, locals := 0 }) (zPc G ad ow Z [.ref (ad 10 0), .int k]) (Qd G ad ow Z (some (.int r))) 0 0 (zA G) := h ▸ c_Mod_isKey l G ad ow Z hm k
set_option maxHeartbeats 4000000 in
theorem c_Mod_isLeaf_no (l : Launch) (G : Gt) (ad : Nat → Nat → Nat) (ow : Nat → Nat × Nat) (Z : Zt) (hm : ML Z) (k : Int32) (h0 : m_isKey Z k = 0) : Met l y_Mod_isLeaf w_Mod_isLeaf ({ frames := 1, cells := 0, slots := 0, locals := 21 }) (zPc G ad ow Z [.ref (ad 10 0), .int k]) (Qd G ad ow Z (some (.int (m_isLeaf Z k)))) 0 0 (zA G) := by
  refine zopen (cc := b_Mod_isLeaf) (maxL := 2) (ret := (some FieldType.boolean)) (by decide) rfl (Nat.le_of_ble_eq_true rfl) ?_
  intro p e s m below meth c ls hC hr hlk hnm hd hl
  have hC : Cx G p c m s _ "KeyGraphModel" b_Mod_isLeaf 2 := hC
  have hl : lv_has ls 2 [(0, .ref (ad 10 0)), (1, .int k)] := hl
  have hx := hC.1
  have hb := hC.2.1
  refine lv_aload_n hx hb d_Mod_isLeaf_0 rfl (lv_at hl 0 rfl) ?_
  refine lv_iload_n hx hb d_Mod_isLeaf_1 rfl (lv_at hl 1 rfl) ?_
  refine zb_i (r := 0) hd (zrunV (n := 1) (rest := []) hC hd (e_mod hm.1) rfl (c_Mod_isKey_r l G ad ow Z hm k 0 h0) q_750 q_752 qp_18 q_6 q_753 rfl rfl rfl (by decide +kernel) ⟨by decide, by decide⟩ rfl hl.1 (Nat.le_of_ble_eq_true rfl) d_Mod_isLeaf_2 ⟨by decide, by decide⟩) (fun H locs hd => ?_)
  refine lv_if_eq (tgt := 22) hx hb d_Mod_isLeaf_5 (by decide) (fun _ => ?_) (fun c => absurd c (by decide))
  refine lv_iconst (v := 0) hx hb d_Mod_isLeaf_22 (by decide) ?_
  exact zfz hC hd hr hlk d_Mod_isLeaf_23 (by decide) (by simp [m_isLeaf, h0]) rfl
set_option maxHeartbeats 4000000 in
theorem c_Mod_isLeaf_yes (l : Launch) (G : Gt) (ad : Nat → Nat → Nat) (ow : Nat → Nat × Nat) (Z : Zt) (hm : ML Z) (k : Nat) (hk : k < 40) (h0 : m_isKey Z (nI k) = 1) : Met l y_Mod_isLeaf w_Mod_isLeaf ({ frames := 1, cells := 0, slots := 0, locals := 21 }) (zPc G ad ow Z [.ref (ad 10 0), .int (nI k)]) (Qd G ad ow Z (some (.int (m_isLeaf Z (nI k))))) 0 0 (zA G) := by
  refine zopen (cc := b_Mod_isLeaf) (maxL := 2) (ret := (some FieldType.boolean)) (by decide) rfl (Nat.le_of_ble_eq_true rfl) ?_
  intro p e s m below meth c ls hC hr hlk hnm hd hl
  have hC : Cx G p c m s _ "KeyGraphModel" b_Mod_isLeaf 2 := hC
  have hl : lv_has ls 2 [(0, .ref (ad 10 0)), (1, .int (nI k))] := hl
  have hx := hC.1
  have hb := hC.2.1
  refine lv_aload_n hx hb d_Mod_isLeaf_0 rfl (lv_at hl 0 rfl) ?_
  refine lv_iload_n hx hb d_Mod_isLeaf_1 rfl (lv_at hl 1 rfl) ?_
  refine zb_i (r := 1) hd (zrunV (n := 1) (rest := []) hC hd (e_mod hm.1) rfl (c_Mod_isKey_r l G ad ow Z hm (nI k) 1 h0) q_750 q_752 qp_18 q_6 q_753 rfl rfl rfl (by decide +kernel) ⟨by decide, by decide⟩ rfl hl.1 (Nat.le_of_ble_eq_true rfl) d_Mod_isLeaf_2 ⟨by decide, by decide⟩) (fun H locs hd => ?_)
  refine lv_if_eq (tgt := 22) hx hb d_Mod_isLeaf_5 (by decide) (fun c => absurd c (by decide)) (fun _ => ?_)
  refine lv_aload_n hx hb d_Mod_isLeaf_8 rfl (lv_at hl 0 rfl) ?_
  refine zget hC hd (e_mod hm.1) rfl i_Mod 3 (by decide) q_656 (Or.inl rfl) (v := .ref (ad 11 3)) rfl d_Mod_isLeaf_9 ?_
  refine lv_iload_n hx hb d_Mod_isLeaf_12 rfl (lv_at hl 1 rfl) ?_
  refine ziaI (k := k) (f := xi Z 503) hC hd (e_m3 hm.2) (by omega) (by decide) d_Mod_isLeaf_13 ?_
  refine lv_iconst (v := (-1)) hx hb d_Mod_isLeaf_14 (by decide) ?_
  refine lv_icmp_ne (tgt := 22) hx hb d_Mod_isLeaf_15 (by decide) (fun c15 => ?_) (fun c15 => ?_)
  · refine lv_iconst (v := 0) hx hb d_Mod_isLeaf_22 (by decide) ?_
    exact zfz hC hd hr hlk d_Mod_isLeaf_23 (by decide) (by simp [m_isLeaf, h0, nI_clamp (show k < 2 ^ 31 by omega), c15]) rfl
  · refine lv_iconst (v := 1) hx hb d_Mod_isLeaf_18 (by decide) ?_
    refine lv_goto (tgt := 23) hx hb d_Mod_isLeaf_19 (by decide) ?_
    exact zfz hC hd hr hlk d_Mod_isLeaf_23 (by decide) (by simp [m_isLeaf, h0, nI_clamp (show k < 2 ^ 31 by omega), c15]) rfl
set_option maxHeartbeats 4000000 in
theorem c_Mod_make (l : Launch) (G : Gt) (ad : Nat → Nat → Nat) (ow : Nat → Nat × Nat) (Z : Zt) (hm : ML Z) (f : Int32) (hn : xn Z 20 0 < 40) : Met l y_Mod_make w_Mod_make ({ frames := 0, cells := 0, slots := 0, locals := 0 }) (zPc G ad ow Z [.ref (ad 10 0), .int f]) (Qd G ad ow (m_make Z f) (some (.int (nI (xn Z 20 0))))) 0 0 (zA G) := by
  refine zopen (cc := b_Mod_make) (maxL := 2) (ret := (some FieldType.int)) (by decide) rfl (Nat.le_of_ble_eq_true rfl) ?_
  intro p e s m below meth c ls hC hr hlk hnm hd hl
  have hC : Cx G p c m s _ "KeyGraphModel" b_Mod_make 2 := hC
  have hl : lv_has ls 2 [(0, .ref (ad 10 0)), (1, .int f)] := hl
  have hx := hC.1
  have hb := hC.2.1
  refine lv_aload_n hx hb d_Mod_make_0 rfl (lv_at hl 0 rfl) ?_
  refine zget hC hd (e_mod hm.1) rfl i_Mod 3 (by decide) q_656 (Or.inl rfl) (v := .ref (ad 11 3)) rfl d_Mod_make_1 ?_
  refine lv_aload_n hx hb d_Mod_make_4 rfl (lv_at hl 0 rfl) ?_
  refine zget hC hd (e_mod hm.1) rfl i_Mod 2 (by decide) q_655 (Or.inl rfl) (v := .int (nI (xn Z 20 0))) rfl d_Mod_make_5 ?_
  refine lv_iload_n hx hb d_Mod_make_8 rfl (lv_at hl 1 rfl) ?_
  refine ziaS (k := xn Z 20 0) (Z' := (si Z 503 (xn Z 20 0) f)) hC hd (e_m3 hm.2) (by omega) (by decide) (u_m3 hm.2) d_Mod_make_9 (fun H locs hd => ?_)
  refine lv_aload_n hx hb d_Mod_make_10 rfl (lv_at hl 0 rfl) ?_
  refine zget hC hd (e_mod hm.1) rfl i_Mod 7 (by decide) q_660 (Or.inl rfl) (v := .ref (ad 11 7)) rfl d_Mod_make_11 ?_
  refine lv_aload_n hx hb d_Mod_make_14 rfl (lv_at hl 0 rfl) ?_
  refine zget hC hd (e_mod hm.1) rfl i_Mod 2 (by decide) q_655 (Or.inl rfl) (v := .int (nI (xn Z 20 0))) rfl d_Mod_make_15 ?_
  refine lv_iconst (v := (-1)) hx hb d_Mod_make_18 (by decide) ?_
  refine ziaS (k := xn Z 20 0) (Z' := (si (si Z 503 (xn Z 20 0) f) 507 (xn Z 20 0) (-1))) hC hd (e_m7 hm.2) (by omega) (by decide) (u_m7 hm.2) d_Mod_make_19 (fun H locs hd => ?_)
  refine lv_aload_n hx hb d_Mod_make_20 rfl (lv_at hl 0 rfl) ?_
  refine zget hC hd (e_mod hm.1) rfl i_Mod 8 (by decide) q_661 (Or.inl rfl) (v := .ref (ad 11 8)) rfl d_Mod_make_21 ?_
  refine lv_aload_n hx hb d_Mod_make_24 rfl (lv_at hl 0 rfl) ?_
  refine zget hC hd (e_mod hm.1) rfl i_Mod 2 (by decide) q_655 (Or.inl rfl) (v := .int (nI (xn Z 20 0))) rfl d_Mod_make_25 ?_
  refine lv_aload_n hx hb d_Mod_make_28 rfl (lv_at hl 0 rfl) ?_
  refine zget hC hd (e_mod hm.1) rfl i_Mod 1 (by decide) q_654 (Or.inl rfl) (v := .int (xi Z 21 0)) rfl d_Mod_make_29 ?_
  refine ziaS (k := xn Z 20 0) (Z' := (si (si (si Z 503 (xn Z 20 0) f) 507 (xn Z 20 0) (-1)) 508 (xn Z 20 0) (xi Z 21 0))) hC hd (e_m8 hm.2) (by omega) (by decide) (u_m8 hm.2) d_Mod_make_32 (fun H locs hd => ?_)
  refine lv_aload_n hx hb d_Mod_make_33 rfl (lv_at hl 0 rfl) ?_
  refine zget hC hd (e_mod hm.1) rfl i_Mod 9 (by decide) q_662 (Or.inl rfl) (v := .ref (ad 11 9)) rfl d_Mod_make_34 ?_
  refine lv_aload_n hx hb d_Mod_make_37 rfl (lv_at hl 0 rfl) ?_
  refine zget hC hd (e_mod hm.1) rfl i_Mod 2 (by decide) q_655 (Or.inl rfl) (v := .int (nI (xn Z 20 0))) rfl d_Mod_make_38 ?_
  refine lv_iconst (v := (-1)) hx hb d_Mod_make_41 (by decide) ?_
  refine ziaS (k := xn Z 20 0) (Z' := (si (si (si (si Z 503 (xn Z 20 0) f) 507 (xn Z 20 0) (-1)) 508 (xn Z 20 0) (xi Z 21 0)) 509 (xn Z 20 0) (-1))) hC hd (e_m9 hm.2) (by omega) (by decide) (u_m9 hm.2) d_Mod_make_42 (fun H locs hd => ?_)
  refine lv_aload_n hx hb d_Mod_make_43 rfl (lv_at hl 0 rfl) ?_
  refine lv_dup hx hb d_Mod_make_44 rfl ?_
  refine zget hC hd (e_mod hm.1) rfl i_Mod 2 (by decide) q_655 (Or.inl rfl) (v := .int (nI (xn Z 20 0))) rfl d_Mod_make_45 ?_
  refine lv_iconst (v := 1) hx hb d_Mod_make_48 (by decide) ?_
  refine zaddN (x := xn Z 20 0) (y := 1) hx hb d_Mod_make_49 ?_
  refine zput (Z' := (sn (si (si (si (si Z 503 (xn Z 20 0) f) 507 (xn Z 20 0) (-1)) 508 (xn Z 20 0) (xi Z 21 0)) 509 (xn Z 20 0) (-1)) 20 0 ((xn Z 20 0) + 1))) hC hd (e_mod hm.1) rfl i_Mod t_Mod t_Mod_ok n_Mod 2 (by decide) q_655 (Or.inl rfl) rfl rfl rfl (Nat.le_of_ble_eq_true rfl) (u_mkeys hm.1) d_Mod_make_50 (fun H locs hd => ?_)
  refine lv_aload_n hx hb d_Mod_make_53 rfl (lv_at hl 0 rfl) ?_
  refine zget hC hd (e_mod hm.1) rfl i_Mod 2 (by decide) q_655 (Or.inl rfl) (v := .int (nI ((xn Z 20 0) + 1))) rfl d_Mod_make_54 ?_
  refine lv_iconst (v := 1) hx hb d_Mod_make_57 (by decide) ?_
  refine zsubN (x := (xn Z 20 0) + 1) (y := 1) (by omega) hx hb d_Mod_make_58 ?_
  exact zfi hC hd hr hlk d_Mod_make_59 (by rw [Nat.add_sub_cancel]) rfl
set_option maxHeartbeats 4000000 in
theorem c_Mod_leaf (l : Launch) (G : Gt) (ad : Nat → Nat → Nat) (ow : Nat → Nat × Nat) (Z : Zt) (hm : ML Z) (v : Int64) (hn : xn Z 20 0 ≤ 40) : Met l y_Mod_leaf w_Mod_leaf ({ frames := 1, cells := 0, slots := 0, locals := 21 }) (zPc G ad ow Z [.ref (ad 10 0), .long v]) (Qd G ad ow ((m_leaf Z v).1) (some (.int (m_leaf Z v).2))) 0 0 (zA G) := by
  refine zopen (cc := b_Mod_leaf) (maxL := 3) (ret := (some FieldType.int)) (by decide) rfl (Nat.le_of_ble_eq_true rfl) ?_
  intro p e s m below meth c ls hC hr hlk hnm hd hl
  have hC : Cx G p c m s _ "KeyGraphModel" b_Mod_leaf 3 := hC
  have hl : lv_has ls 3 [(0, .ref (ad 10 0)), (1, .long v)] := hl
  have hx := hC.1
  have hb := hC.2.1
  refine lv_aload_n hx hb d_Mod_leaf_0 rfl (lv_at hl 0 rfl) ?_
  refine lv_iconst (v := 0) hx hb d_Mod_leaf_1 (by decide) ?_
  refine zput (Z' := (si Z 20 0 0)) hC hd (e_mod hm.1) rfl i_Mod t_Mod t_Mod_ok n_Mod 0 (by decide) q_653 (Or.inl rfl) rfl rfl rfl (Nat.le_of_ble_eq_true rfl) (u_mcode hm.1) d_Mod_leaf_2 (fun H locs hd => ?_)
  refine lv_aload_n hx hb d_Mod_leaf_5 rfl (lv_at hl 0 rfl) ?_
  refine zget hC hd (e_mod hm.1) rfl i_Mod 2 (by decide) q_655 (Or.inl rfl) (v := .int (nI (xn Z 20 0))) rfl d_Mod_leaf_6 ?_
  refine lv_bipush (v := 40) hx hb d_Mod_leaf_9 (by decide) ?_
  refine zc_ne (x := xn Z 20 0) (y := 40) (tgt := 16) (by omega) (by omega) hx hb d_Mod_leaf_11 (by decide) (fun c11 => ?_) (fun c11 => ?_)
  · refine lv_aload_n hx hb d_Mod_leaf_16 rfl (lv_at hl 0 rfl) ?_
    refine zget hC hd (e_mod hm.1) rfl i_Mod 14 (by decide) q_667 (Or.inl rfl) (v := .ref (ad 11 14)) rfl d_Mod_leaf_17 ?_
    refine lv_aload_n hx hb d_Mod_leaf_20 rfl (lv_at hl 0 rfl) ?_
    refine zget hC hd (e_mod hm.1) rfl i_Mod 2 (by decide) q_655 (Or.inl rfl) (v := .int (nI (xn Z 20 0))) rfl d_Mod_leaf_21 ?_
    refine lv_lload_n hx hb d_Mod_leaf_24 rfl (lv_at hl 1 rfl) ?_
    refine zlaS (k := xn Z 20 0) (Z' := (sl (si Z 20 0 0) 514 (xn Z 20 0) v)) hC hd (e_m14 hm.2) (by omega) (by decide) (u_m14 hm.2) d_Mod_leaf_25 (fun H locs hd => ?_)
    refine lv_aload_n hx hb d_Mod_leaf_26 rfl (lv_at hl 0 rfl) ?_
    refine zget hC hd (e_mod hm.1) rfl i_Mod 6 (by decide) q_659 (Or.inl rfl) (v := .ref (ad 11 6)) rfl d_Mod_leaf_27 ?_
    refine lv_aload_n hx hb d_Mod_leaf_30 rfl (lv_at hl 0 rfl) ?_
    refine zget hC hd (e_mod hm.1) rfl i_Mod 2 (by decide) q_655 (Or.inl rfl) (v := .int (nI (xn Z 20 0))) rfl d_Mod_leaf_31 ?_
    refine lv_iconst (v := 1) hx hb d_Mod_leaf_34 (by decide) ?_
    refine ziaS (k := xn Z 20 0) (Z' := (si (sl (si Z 20 0 0) 514 (xn Z 20 0) v) 506 (xn Z 20 0) 1)) hC hd (e_m6 hm.2) (by omega) (by decide) (u_m6 hm.2) d_Mod_leaf_35 (fun H locs hd => ?_)
    refine lv_aload_n hx hb d_Mod_leaf_36 rfl (lv_at hl 0 rfl) ?_
    refine lv_iconst (v := (-1)) hx hb d_Mod_leaf_37 (by decide) ?_
    refine zb_i (r := (nI (xn Z 20 0))) hd (zrunV (n := 1) (rest := []) hC hd (e_mod hm.1) rfl (c_Mod_make l G ad ow (si (sl (si Z 20 0 0) 514 (xn Z 20 0) v) 506 (xn Z 20 0) 1) hm (-1) (show xn Z 20 0 < 40 from by omega)) q_738 q_740 qp_17 q_6 q_741 rfl rfl rfl (by decide +kernel) ⟨by decide, by decide⟩ rfl hl.1 (Nat.le_of_ble_eq_true rfl) d_Mod_leaf_38 ⟨by decide, by decide⟩) (fun H locs hd => ?_)
    exact zfi hC hd hr hlk d_Mod_leaf_41 (by first | rfl | simp [m_leaf, c11] | (simp [m_leaf, c11]; rfl)) (by first | rfl | simp [m_leaf, m0, c11] | (simp [m_leaf, m0, c11]; rfl))
  · refine lv_iconst (v := (-1)) hx hb d_Mod_leaf_14 (by decide) ?_
    exact zfi hC hd hr hlk d_Mod_leaf_15 (by first | rfl | simp [m_leaf, c11] | (simp [m_leaf, c11]; rfl)) (by first | rfl | simp [m_leaf, m0, c11] | (simp [m_leaf, m0, c11]; rfl))
set_option maxHeartbeats 4000000 in
theorem c_Mod_key (l : Launch) (G : Gt) (ad : Nat → Nat → Nat) (ow : Nat → Nat × Nat) (Z : Zt) (hm : ML Z) (f : Int32) (hn : xn Z 20 0 ≤ 40) : Met l y_Mod_key w_Mod_key ({ frames := 1, cells := 0, slots := 0, locals := 21 }) (zPc G ad ow Z [.ref (ad 10 0), .int f]) (Qd G ad ow ((m_key Z f).1) (some (.int (m_key Z f).2))) 0 0 (zA G) := by
  refine zopen (cc := b_Mod_key) (maxL := 2) (ret := (some FieldType.int)) (by decide) rfl (Nat.le_of_ble_eq_true rfl) ?_
  intro p e s m below meth c ls hC hr hlk hnm hd hl
  have hC : Cx G p c m s _ "KeyGraphModel" b_Mod_key 2 := hC
  have hl : lv_has ls 2 [(0, .ref (ad 10 0)), (1, .int f)] := hl
  have hx := hC.1
  have hb := hC.2.1
  refine lv_aload_n hx hb d_Mod_key_0 rfl (lv_at hl 0 rfl) ?_
  refine lv_iconst (v := 0) hx hb d_Mod_key_1 (by decide) ?_
  refine zput (Z' := (si Z 20 0 0)) hC hd (e_mod hm.1) rfl i_Mod t_Mod t_Mod_ok n_Mod 0 (by decide) q_653 (Or.inl rfl) rfl rfl rfl (Nat.le_of_ble_eq_true rfl) (u_mcode hm.1) d_Mod_key_2 (fun H locs hd => ?_)
  refine lv_aload_n hx hb d_Mod_key_5 rfl (lv_at hl 0 rfl) ?_
  refine zget hC hd (e_mod hm.1) rfl i_Mod 2 (by decide) q_655 (Or.inl rfl) (v := .int (nI (xn Z 20 0))) rfl d_Mod_key_6 ?_
  refine lv_bipush (v := 40) hx hb d_Mod_key_9 (by decide) ?_
  refine zc_eq (x := xn Z 20 0) (y := 40) (tgt := 24) (by omega) (by omega) hx hb d_Mod_key_11 (by decide) (fun c11 => ?_) (fun c11 => ?_)
  · refine lv_iconst (v := (-1)) hx hb d_Mod_key_24 (by decide) ?_
    refine lv_goto (tgt := 33) hx hb d_Mod_key_25 (by decide) ?_
    exact zfi hC hd hr hlk d_Mod_key_33 (by first | rfl | simp [m_key, c11] | (simp [m_key, c11]; rfl)) (by first | rfl | simp [m_key, m0, c11] | (simp [m_key, m0, c11]; rfl))
  · refine lv_iload_n hx hb d_Mod_key_14 rfl (lv_at hl 1 rfl) ?_
    refine lv_if_lt (tgt := 24) hx hb d_Mod_key_15 (by decide) (fun c15 => ?_) (fun c15 => ?_)
    · refine lv_iconst (v := (-1)) hx hb d_Mod_key_24 (by decide) ?_
      refine lv_goto (tgt := 33) hx hb d_Mod_key_25 (by decide) ?_
      exact zfi hC hd hr hlk d_Mod_key_33 (by first | rfl | simp [m_key, c11, c15] | (simp [m_key, c11, c15]; rfl)) (by first | rfl | simp [m_key, m0, c11, c15] | (simp [m_key, m0, c11, c15]; rfl))
    · refine lv_iload_n hx hb d_Mod_key_18 rfl (lv_at hl 1 rfl) ?_
      refine lv_bipush (v := 6) hx hb d_Mod_key_19 (by decide) ?_
      refine lv_icmp_lt (tgt := 28) hx hb d_Mod_key_21 (by decide) (fun c21 => ?_) (fun c21 => ?_)
      · refine lv_aload_n hx hb d_Mod_key_28 rfl (lv_at hl 0 rfl) ?_
        refine lv_iload_n hx hb d_Mod_key_29 rfl (lv_at hl 1 rfl) ?_
        refine zb_i (r := (nI (xn Z 20 0))) hd (zrunV (n := 1) (rest := []) hC hd (e_mod hm.1) rfl (c_Mod_make l G ad ow (si Z 20 0 0) hm f (show xn Z 20 0 < 40 from by omega)) q_738 q_740 qp_17 q_6 q_741 rfl rfl rfl (by decide +kernel) ⟨by decide, by decide⟩ rfl hl.1 (Nat.le_of_ble_eq_true rfl) d_Mod_key_30 ⟨by decide, by decide⟩) (fun H locs hd => ?_)
        exact zfi hC hd hr hlk d_Mod_key_33 (by first | rfl | simp [m_key, c11, c15, c21] | (simp [m_key, c11, c15, c21]; rfl)) (by first | rfl | simp [m_key, m0, c11, c15, c21] | (simp [m_key, m0, c11, c15, c21]; rfl))
      · refine lv_iconst (v := (-1)) hx hb d_Mod_key_24 (by decide) ?_
        refine lv_goto (tgt := 33) hx hb d_Mod_key_25 (by decide) ?_
        exact zfi hC hd hr hlk d_Mod_key_33 (by first | rfl | simp [m_key, c11, c15, c21] | (simp [m_key, c11, c15, c21]; rfl)) (by first | rfl | simp [m_key, m0, c11, c15, c21] | (simp [m_key, m0, c11, c15, c21]; rfl))
