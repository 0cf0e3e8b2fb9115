set_option maxHeartbeats 4000000 in
theorem c_KG_change_no (l : Launch) (G : Gt) (ad : Nat → Nat → Nat) (ow : Nat → Nat × Nat) (Z : Zt) (hX : XS Z) (k : Int32) (v : Int64) (h0 : x_isKey Z k = 0) : Met l y_KG_change w_KG_change ({ frames := 3, cells := 0, slots := 0, locals := 64 }) (zPc G ad ow Z [.ref (ad 0 0), .int k, .long v]) (Qd G ad ow ((x_change Z k v).1) (some (.int (x_change Z k v).2))) 0 0 (zA G) := by
  refine zopen (cc := b_KG_change) (maxL := 5) (ret := (some FieldType.int)) (by decide) rfl (Nat.le_of_ble_eq_true rfl) ?_
  intro p e s m below meth c ls hC hr hlk hnm hd hl
  have hC : Cx G p c m s _ "KeyGraph" b_KG_change 5 := hC
  have hl : lv_has ls 5 [(0, .ref (ad 0 0)), (1, .int k), (2, .long v)] := hl
  have hx := hC.1
  have hb := hC.2.1
  refine lv_aload_n hx hb d_KG_change_0 rfl (lv_at hl 0 rfl) ?_
  refine lv_iload_n hx hb d_KG_change_1 rfl (lv_at hl 1 rfl) ?_
  refine zb_i (r := 0) hd (zrunV (n := 1) (rest := []) hC hd (e_kg hX.kg) rfl (c_KG_isKey l G ad ow Z hX k 0 h0) q_348 q_350 qp_4 q_1 q_351 rfl rfl rfl (by decide +kernel) ⟨by decide, by decide⟩ rfl hl.1 (Nat.le_of_ble_eq_true rfl) d_KG_change_2 ⟨by decide, by decide⟩) (fun H locs hd => ?_)
  refine lv_if_eq (tgt := 25) hx hb d_KG_change_5 (by decide) (fun _ => ?_) (fun c => absurd c (by decide))
  refine lv_iconst (v := (-1)) hx hb d_KG_change_25 (by decide) ?_
  exact zfi hC hd hr hlk d_KG_change_26 (by unfold x_change; (repeat (first | (rw [if_pos]; rotate_left; first | assumption | decide) | (rw [if_neg]; rotate_left; first | assumption | decide))) <;> (try rfl)) (by unfold x_change; (repeat (first | (rw [if_pos]; rotate_left; first | assumption | decide) | (rw [if_neg]; rotate_left; first | assumption | decide))) <;> (try rfl))
set_option maxHeartbeats 4000000 in
theorem c_KG_change_fn (l : Launch) (G : Gt) (ad : Nat → Nat → Nat) (ow : Nat → Nat × Nat) (Z : Zt) (hX : XS Z) (k : Nat) (v : Int64) (hk : k < xn Z 0 1) (h0 : x_isKey Z (nI k) = 1) (hlf : ¬ xn Z 1 k = 6) : Met l y_KG_change w_KG_change ({ frames := 3, cells := 0, slots := 0, locals := 64 }) (zPc G ad ow Z [.ref (ad 0 0), .int (nI k), .long v]) (Qd G ad ow ((x_change Z (nI k) v).1) (some (.int (x_change Z (nI k) v).2))) 0 0 (zA G) := by
  refine zopen (cc := b_KG_change) (maxL := 5) (ret := (some FieldType.int)) (by decide) rfl (Nat.le_of_ble_eq_true rfl) ?_
  intro p e s m below meth c ls hC hr hlk hnm hd hl
  have hC : Cx G p c m s _ "KeyGraph" b_KG_change 5 := hC
  have hl : lv_has ls 5 [(0, .ref (ad 0 0)), (1, .int (nI k)), (2, .long v)] := hl
  have hx := hC.1
  have hb := hC.2.1
  have h40 := hX.k40
  have hcl : (nI k).toNatClampNeg = k := nI_clamp (by omega)
  have h0n : ¬ x_isKey Z (nI k) = 0 := by rw [h0]; decide
  refine lv_aload_n hx hb d_KG_change_0 rfl (lv_at hl 0 rfl) ?_
  refine lv_iload_n hx hb d_KG_change_1 rfl (lv_at hl 1 rfl) ?_
  refine zb_i (r := 1) hd (zrunV (n := 1) (rest := []) hC hd (e_kg hX.kg) rfl (c_KG_isKey l G ad ow Z hX (nI k) 1 h0) q_348 q_350 qp_4 q_1 q_351 rfl rfl rfl (by decide +kernel) ⟨by decide, by decide⟩ rfl hl.1 (Nat.le_of_ble_eq_true rfl) d_KG_change_2 ⟨by decide, by decide⟩) (fun H locs hd => ?_)
  refine lv_if_eq (tgt := 25) hx hb d_KG_change_5 (by decide) (fun c => absurd c (by decide)) (fun _ => ?_)
  refine lv_aload_n hx hb d_KG_change_8 rfl (lv_at hl 0 rfl) ?_
  refine zget hC hd (e_kg hX.kg) rfl i_KG 0 (by decide) q_80 (Or.inl rfl) (v := .ref (ad 3 0)) rfl d_KG_change_9 ?_
  refine lv_iload_n hx hb d_KG_change_12 rfl (lv_at hl 1 rfl) ?_
  refine zb_a (r := (ad 1 k)) hd (zrunV (n := 1) (rest := []) hC hd (e_list hX.l0) rfl (c_get l G ad ow Z hX 0 k k hX.l0 (show k < xn Z 2 0 by rw [hX.kl]; exact hk) (hX.ke hk)) q_352 q_353 q_354 q_4 q_355 rfl rfl rfl (by decide +kernel) ⟨by decide, by decide⟩ rfl hl.1 (Nat.le_of_ble_eq_true rfl) d_KG_change_13 ⟨by decide, by decide⟩) (fun H locs hd => ?_)
  refine zcast hC hd (e_key hk) q_105 d_KG_change_16 ?_
  refine zb_i (r := 0) hd (zrunV (n := 0) (rest := []) hC hd (e_key hk) rfl (c_Key_isLeaf_n l G ad ow Z k hk hlf) q_366 q_367 q_368 q_7 q_369 rfl rfl rfl (by decide +kernel) ⟨by decide, by decide⟩ rfl hl.1 (Nat.le_of_ble_eq_true rfl) d_KG_change_19 ⟨by decide, by decide⟩) (fun H locs hd => ?_)
  refine lv_if_ne (tgt := 27) hx hb d_KG_change_22 (by decide) (fun c => absurd c (by decide)) (fun _ => ?_)
  refine lv_iconst (v := (-1)) hx hb d_KG_change_25 (by decide) ?_
  exact zfi hC hd hr hlk d_KG_change_26 (by unfold x_change; rw [hcl]; (repeat (first | (rw [if_pos]; rotate_left; first | assumption | decide) | (rw [if_neg]; rotate_left; first | assumption | decide))) <;> (try rfl)) (by unfold x_change; rw [hcl]; (repeat (first | (rw [if_pos]; rotate_left; first | assumption | decide) | (rw [if_neg]; rotate_left; first | assumption | decide))) <;> (try rfl))
set_option maxHeartbeats 4000000 in
theorem c_KG_change_leaf (l : Launch) (G : Gt) (ad : Nat → Nat → Nat) (ow : Nat → Nat × Nat) (Z : Zt) (hX : XS Z) (hcp : CancelPre Z) (k : Nat) (v : Int64) (hk : k < xn Z 0 1) (h0 : x_isKey Z (nI k) = 1) (hlf : xn Z 1 k = 6) : Met l y_KG_change w_KG_change ({ frames := 3, cells := 0, slots := 0, locals := 64 }) (zPc G ad ow Z [.ref (ad 0 0), .int (nI k), .long v]) (Qd G ad ow ((x_change Z (nI k) v).1) (some (.int (x_change Z (nI k) v).2))) 0 0 (zA G) := by
  refine zopen (cc := b_KG_change) (maxL := 5) (ret := (some FieldType.int)) (by decide) rfl (Nat.le_of_ble_eq_true rfl) ?_
  intro p e s m below meth c ls hC hr hlk hnm hd hl
  have hC : Cx G p c m s _ "KeyGraph" b_KG_change 5 := hC
  have hl : lv_has ls 5 [(0, .ref (ad 0 0)), (1, .int (nI k)), (2, .long v)] := hl
  have hx := hC.1
  have hb := hC.2.1
  have h40 := hX.k40
  have hcl : (nI k).toNatClampNeg = k := nI_clamp (by omega)
  have h0n : ¬ x_isKey Z (nI k) = 0 := by rw [h0]; decide
  refine lv_aload_n hx hb d_KG_change_0 rfl (lv_at hl 0 rfl) ?_
  refine lv_iload_n hx hb d_KG_change_1 rfl (lv_at hl 1 rfl) ?_
  refine zb_i (r := 1) hd (zrunV (n := 1) (rest := []) hC hd (e_kg hX.kg) rfl (c_KG_isKey l G ad ow Z hX (nI k) 1 h0) q_348 q_350 qp_4 q_1 q_351 rfl rfl rfl (by decide +kernel) ⟨by decide, by decide⟩ rfl hl.1 (Nat.le_of_ble_eq_true rfl) d_KG_change_2 ⟨by decide, by decide⟩) (fun H locs hd => ?_)
  refine lv_if_eq (tgt := 25) hx hb d_KG_change_5 (by decide) (fun c => absurd c (by decide)) (fun _ => ?_)
  refine lv_aload_n hx hb d_KG_change_8 rfl (lv_at hl 0 rfl) ?_
  refine zget hC hd (e_kg hX.kg) rfl i_KG 0 (by decide) q_80 (Or.inl rfl) (v := .ref (ad 3 0)) rfl d_KG_change_9 ?_
  refine lv_iload_n hx hb d_KG_change_12 rfl (lv_at hl 1 rfl) ?_
  refine zb_a (r := (ad 1 k)) hd (zrunV (n := 1) (rest := []) hC hd (e_list hX.l0) rfl (c_get l G ad ow Z hX 0 k k hX.l0 (show k < xn Z 2 0 by rw [hX.kl]; exact hk) (hX.ke hk)) q_352 q_353 q_354 q_4 q_355 rfl rfl rfl (by decide +kernel) ⟨by decide, by decide⟩ rfl hl.1 (Nat.le_of_ble_eq_true rfl) d_KG_change_13 ⟨by decide, by decide⟩) (fun H locs hd => ?_)
  refine zcast hC hd (e_key hk) q_105 d_KG_change_16 ?_
  refine zb_i (r := 1) hd (zrunV (n := 0) (rest := []) hC hd (e_key hk) rfl (c_Key_isLeaf_y l G ad ow Z k hk hlf) q_366 q_367 q_368 q_7 q_369 rfl rfl rfl (by decide +kernel) ⟨by decide, by decide⟩ rfl hl.1 (Nat.le_of_ble_eq_true rfl) d_KG_change_19 ⟨by decide, by decide⟩) (fun H locs hd => ?_)
  refine lv_if_ne (tgt := 27) hx hb d_KG_change_22 (by decide) (fun _ => ?_) (fun c => absurd c (by decide))
  refine lv_aload_n hx hb d_KG_change_27 rfl (lv_at hl 0 rfl) ?_
  refine zget hC hd (e_kg hX.kg) rfl i_KG 0 (by decide) q_80 (Or.inl rfl) (v := .ref (ad 3 0)) rfl d_KG_change_28 ?_
  refine lv_iload_n hx hb d_KG_change_31 rfl (lv_at hl 1 rfl) ?_
  refine zb_a (r := (ad 1 k)) hd (zrunV (n := 1) (rest := []) hC hd (e_list hX.l0) rfl (c_get l G ad ow Z hX 0 k k hX.l0 (show k < xn Z 2 0 by rw [hX.kl]; exact hk) (hX.ke hk)) q_352 q_353 q_354 q_4 q_355 rfl rfl rfl (by decide +kernel) ⟨by decide, by decide⟩ rfl hl.1 (Nat.le_of_ble_eq_true rfl) d_KG_change_32 ⟨by decide, by decide⟩) (fun H locs hd => ?_)
  refine zcast hC hd (e_key hk) q_105 d_KG_change_35 ?_
  refine lv_astore (lv' := [(4, .ref (ad 1 k)), (0, .ref (ad 0 0)), (1, .int (nI k)), (2, .long v)]) hx hb d_KG_change_38 hl (by decide) rfl (fun ls hl => ?_)
  refine lv_aload hx hb d_KG_change_40 (lv_at hl 0 rfl) ?_
  refine zgetN hC hd (e_key hk) rfl i_Key 4 (by decide) z_120 (Or.inl rfl) (v := .long (xl Z 1 k)) rfl d_KG_change_42 ?_
  refine lv_lload_n hx hb d_KG_change_45 rfl (lv_at hl 3 rfl) ?_
  refine W.lcmp hx hb d_KG_change_46 ?_
  refine lv_if_ne (tgt := 55) hx hb d_KG_change_47 (by decide) (fun c47 => ?_) (fun c47 => ?_)
  · simp only [ne_eq, lg_cmp_eq, lg_cmp_le, lg_cmp_lt, lg_cmp_ge, lg_cmp_gt] at c47
    refine lv_aload_n hx hb d_KG_change_55 rfl (lv_at hl 1 rfl) ?_
    refine zb_v hd (zrunV (n := 0) (rest := []) hC hd (e_kg hX.kg) rfl (c_KG_raise l G ad ow Z hX hcp) q_386 q_388 qp_8 q_1 q_389 rfl rfl rfl (by decide +kernel) ⟨by decide, by decide⟩ rfl hl.1 (Nat.le_of_ble_eq_true rfl) d_KG_change_56 ⟨by decide, by decide⟩) (fun H locs hd => ?_)
    have hXr : XS (x_raise Z) := x_can_XS hX
    refine lv_aload hx hb d_KG_change_59 (lv_at hl 0 rfl) ?_
    refine lv_lload_n hx hb d_KG_change_61 rfl (lv_at hl 3 rfl) ?_
    refine zputN (Z' := (sl (x_raise Z) 1 k v)) (v := .long v) hC hd (e_key (show k < xn (x_cancel Z) 0 1 by rw [x_can_xn _ _ _ (by decide)]; exact hk)) rfl i_Key t_Key t_Key_ok n_Key 4 (by decide) z_120 rfl rfl rfl rfl (Nat.le_of_ble_eq_true rfl) (u_val (show k < xn (x_cancel Z) 0 1 by rw [x_can_xn _ _ _ (by decide)]; exact hk)) d_KG_change_62 (fun H locs hd => ?_)
    refine lv_aload hx hb d_KG_change_65 (lv_at hl 0 rfl) ?_
    refine lv_aload_n hx hb d_KG_change_67 rfl (lv_at hl 1 rfl) ?_
    refine zget hC hd (e_kg hXr.kg) rfl i_KG 3 (by decide) q_83 (Or.inl rfl) (v := .int (xi (x_raise Z) 14 0)) rfl d_KG_change_68 ?_
    refine zputN (Z' := (si (sl (x_raise Z) 1 k v) 2 k (xi (x_raise Z) 14 0))) (v := .int (xi (x_raise Z) 14 0)) hC hd (e_key (show k < xn (x_cancel Z) 0 1 by rw [x_can_xn _ _ _ (by decide)]; exact hk)) rfl i_Key t_Key t_Key_ok n_Key 5 (by decide) z_121 rfl rfl rfl rfl (Nat.le_of_ble_eq_true rfl) (u_chg (show k < xn (x_cancel Z) 0 1 by rw [x_can_xn _ _ _ (by decide)]; exact hk)) d_KG_change_71 (fun H locs hd => ?_)
    refine lv_aload_n hx hb d_KG_change_74 rfl (lv_at hl 1 rfl) ?_
    refine zget hC hd (e_kg hXr.kg) rfl i_KG 3 (by decide) q_83 (Or.inl rfl) (v := .int (xi (x_raise Z) 14 0)) rfl d_KG_change_75 ?_
    exact zfi hC hd hr hlk d_KG_change_78 (by unfold x_change; rw [hcl]; (repeat (first | (rw [if_pos]; rotate_left; first | assumption | decide) | (rw [if_neg]; rotate_left; first | assumption | decide))) <;> (try rfl)) (by unfold x_change; rw [hcl]; (repeat (first | (rw [if_pos]; rotate_left; first | assumption | decide) | (rw [if_neg]; rotate_left; first | assumption | decide))) <;> (try rfl))
  · simp only [ne_eq, lg_cmp_eq, lg_cmp_le, lg_cmp_lt, lg_cmp_ge, lg_cmp_gt] at c47
    refine lv_aload_n hx hb d_KG_change_50 rfl (lv_at hl 1 rfl) ?_
    refine zget hC hd (e_kg hX.kg) rfl i_KG 3 (by decide) q_83 (Or.inl rfl) (v := .int (xi Z 14 0)) rfl d_KG_change_51 ?_
    exact zfi hC hd hr hlk d_KG_change_54 (by unfold x_change; rw [hcl]; (repeat (first | (rw [if_pos]; rotate_left; first | assumption | decide) | (rw [if_neg]; rotate_left; first | assumption | decide))) <;> (try rfl)) (by unfold x_change; rw [hcl]; (repeat (first | (rw [if_pos]; rotate_left; first | assumption | decide) | (rw [if_neg]; rotate_left; first | assumption | decide))) <;> (try rfl))
theorem c_KG_change (l : Launch) (G : Gt) (ad : Nat → Nat → Nat) (ow : Nat → Nat × Nat) (Z : Zt) (hX : XS Z) (hcp : CancelPre Z) (k : Int32) (v : Int64) : Met l y_KG_change w_KG_change ({ frames := 3, cells := 0, slots := 0, locals := 64 }) (zPc G ad ow Z [.ref (ad 0 0), .int k, .long v]) (Qd G ad ow ((x_change Z k v).1) (some (.int (x_change Z k v).2))) 0 0 (zA G) := by
  have h40 := hX.k40
  have hkl := hX.kl
  rcases x_isKey_cases Z k (by omega) with h0 | ⟨j, hj, rfl, h0⟩
  · exact c_KG_change_no l G ad ow Z hX k v h0
  · by_cases hlf : xn Z 1 j = 6
    · exact c_KG_change_leaf l G ad ow Z hX hcp j v (by omega) h0 hlf
    · exact c_KG_change_fn l G ad ow Z hX j v (by omega) h0 hlf
set_option maxHeartbeats 4000000 in
theorem c_KG_spoil_no (l : Launch) (G : Gt) (ad : Nat → Nat → Nat) (ow : Nat → Nat × Nat) (Z : Zt) (hX : XS Z) (k b : Int32) (h0 : x_isFn Z k = 0) : Met l y_KG_spoil w_KG_spoil ({ frames := 4, cells := 0, slots := 0, locals := 85 }) (zPc G ad ow Z [.ref (ad 0 0), .int k, .int b]) (Qd G ad ow ((x_spoil Z k b).1) (some (.int (x_spoil Z k b).2))) 0 0 (zA G) := by
  refine zopen (cc := b_KG_spoil) (maxL := 4) (ret := (some FieldType.int)) (by decide) rfl (Nat.le_of_ble_eq_true rfl) ?_
  intro p e s m below meth c ls hC hr hlk hnm hd hl
  have hC : Cx G p c m s _ "KeyGraph" b_KG_spoil 4 := hC
  have hl : lv_has ls 4 [(0, .ref (ad 0 0)), (1, .int k), (2, .int b)] := hl
  have hx := hC.1
  have hb := hC.2.1
  refine lv_aload_n hx hb d_KG_spoil_0 rfl (lv_at hl 0 rfl) ?_
  refine lv_iload_n hx hb d_KG_spoil_1 rfl (lv_at hl 1 rfl) ?_
  refine zb_i (r := 0) hd (zrunV (n := 1) (rest := []) hC hd (e_kg hX.kg) rfl (c_KG_isFunction l G ad ow Z hX k 0 h0) q_344 q_346 qp_3 q_1 q_347 rfl rfl rfl (by decide +kernel) ⟨by decide, by decide⟩ rfl hl.1 (Nat.le_of_ble_eq_true rfl) d_KG_spoil_2 ⟨by decide, by decide⟩) (fun H locs hd => ?_)
  refine lv_if_ne (tgt := 10) hx hb d_KG_spoil_5 (by decide) (fun c => absurd c (by decide)) (fun _ => ?_)
  refine lv_iconst (v := (-1)) hx hb d_KG_spoil_8 (by decide) ?_
  exact zfi hC hd hr hlk d_KG_spoil_9 (by unfold x_spoil; (repeat (first | (rw [if_pos]; rotate_left; first | assumption | decide) | (rw [if_neg]; rotate_left; first | assumption | decide))) <;> (try rfl)) (by unfold x_spoil; (repeat (first | (rw [if_pos]; rotate_left; first | assumption | decide) | (rw [if_neg]; rotate_left; first | assumption | decide))) <;> (try rfl))
set_option maxHeartbeats 4000000 in
theorem c_KG_spoil_yes (l : Launch) (G : Gt) (ad : Nat → Nat → Nat) (ow : Nat → Nat × Nat) (Z : Zt) (hX : XS Z) (hcp : CancelPre Z) (b : Int32) (hb01 : b = 0 ∨ b = 1) (k : Nat) (hk : k < xn Z 0 1) (h0 : x_isFn Z (nI k) = 1) : Met l y_KG_spoil w_KG_spoil ({ frames := 4, cells := 0, slots := 0, locals := 85 }) (zPc G ad ow Z [.ref (ad 0 0), .int (nI k), .int b]) (Qd G ad ow ((x_spoil Z (nI k) b).1) (some (.int (x_spoil Z (nI k) b).2))) 0 0 (zA G) := by
  refine zopen (cc := b_KG_spoil) (maxL := 4) (ret := (some FieldType.int)) (by decide) rfl (Nat.le_of_ble_eq_true rfl) ?_
  intro p e s m below meth c ls hC hr hlk hnm hd hl
  have hC : Cx G p c m s _ "KeyGraph" b_KG_spoil 4 := hC
  have hl : lv_has ls 4 [(0, .ref (ad 0 0)), (1, .int (nI k)), (2, .int b)] := hl
  have hx := hC.1
  have hb := hC.2.1
  have h40 := hX.k40
  have hcl : (nI k).toNatClampNeg = k := nI_clamp (by omega)
  have h0n : ¬ x_isFn Z (nI k) = 0 := by rw [h0]; decide
  refine lv_aload_n hx hb d_KG_spoil_0 rfl (lv_at hl 0 rfl) ?_
  refine lv_iload_n hx hb d_KG_spoil_1 rfl (lv_at hl 1 rfl) ?_
  refine zb_i (r := 1) hd (zrunV (n := 1) (rest := []) hC hd (e_kg hX.kg) rfl (c_KG_isFunction l G ad ow Z hX (nI k) 1 h0) q_344 q_346 qp_3 q_1 q_347 rfl rfl rfl (by decide +kernel) ⟨by decide, by decide⟩ rfl hl.1 (Nat.le_of_ble_eq_true rfl) d_KG_spoil_2 ⟨by decide, by decide⟩) (fun H locs hd => ?_)
  refine lv_if_ne (tgt := 10) hx hb d_KG_spoil_5 (by decide) (fun _ => ?_) (fun c => absurd c (by decide))
  refine lv_aload_n hx hb d_KG_spoil_10 rfl (lv_at hl 0 rfl) ?_
  refine zget hC hd (e_kg hX.kg) rfl i_KG 0 (by decide) q_80 (Or.inl rfl) (v := .ref (ad 3 0)) rfl d_KG_spoil_11 ?_
  refine lv_iload_n hx hb d_KG_spoil_14 rfl (lv_at hl 1 rfl) ?_
  refine zb_a (r := (ad 1 k)) hd (zrunV (n := 1) (rest := []) hC hd (e_list hX.l0) rfl (c_get l G ad ow Z hX 0 k k hX.l0 (show k < xn Z 2 0 by rw [hX.kl]; exact hk) (hX.ke hk)) q_352 q_353 q_354 q_4 q_355 rfl rfl rfl (by decide +kernel) ⟨by decide, by decide⟩ rfl hl.1 (Nat.le_of_ble_eq_true rfl) d_KG_spoil_15 ⟨by decide, by decide⟩) (fun H locs hd => ?_)
  refine zcast hC hd (e_key hk) q_105 d_KG_spoil_18 ?_
  refine lv_astore_n (lv' := [(3, .ref (ad 1 k)), (0, .ref (ad 0 0)), (1, .int (nI k)), (2, .int b)]) hx hb d_KG_spoil_21 rfl hl (by decide) rfl (fun ls hl => ?_)
  refine lv_aload_n hx hb d_KG_spoil_22 rfl (lv_at hl 0 rfl) ?_
  refine zgetN hC hd (e_key hk) rfl i_Key 10 (by decide) z_127 (Or.inl rfl) (v := .int (xi Z 7 k)) rfl d_KG_spoil_23 ?_
  refine lv_iload_n hx hb d_KG_spoil_26 rfl (lv_at hl 3 rfl) ?_
  refine lv_icmp_ne (tgt := 35) hx hb d_KG_spoil_27 (by decide) (fun c27 => ?_) (fun c27 => ?_)
  · refine lv_aload_n hx hb d_KG_spoil_35 rfl (lv_at hl 1 rfl) ?_
    refine zb_v hd (zrunV (n := 0) (rest := []) hC hd (e_kg hX.kg) rfl (c_KG_raise l G ad ow Z hX hcp) q_386 q_388 qp_8 q_1 q_389 rfl rfl rfl (by decide +kernel) ⟨by decide, by decide⟩ rfl hl.1 (Nat.le_of_ble_eq_true rfl) d_KG_spoil_36 ⟨by decide, by decide⟩) (fun H locs hd => ?_)
    have hXr : XS (x_raise Z) := x_can_XS hX
    refine lv_aload_n hx hb d_KG_spoil_39 rfl (lv_at hl 0 rfl) ?_
    refine lv_iload_n hx hb d_KG_spoil_40 rfl (lv_at hl 3 rfl) ?_
    refine zputN (Z' := (si (x_raise Z) 7 k b)) (v := .int b) hC hd (e_key (show k < xn (x_cancel Z) 0 1 by rw [x_can_xn _ _ _ (by decide)]; exact hk)) rfl i_Key t_Key t_Key_ok n_Key 10 (by decide) z_127 rfl rfl (zbool hb01) (zboolf hb01) (Nat.le_of_ble_eq_true rfl) (u_spo (show k < xn (x_cancel Z) 0 1 by rw [x_can_xn _ _ _ (by decide)]; exact hk)) d_KG_spoil_41 (fun H locs hd => ?_)
    refine lv_aload_n hx hb d_KG_spoil_44 rfl (lv_at hl 0 rfl) ?_
    refine lv_aload_n hx hb d_KG_spoil_45 rfl (lv_at hl 1 rfl) ?_
    refine zget hC hd (e_kg hXr.kg) rfl i_KG 3 (by decide) q_83 (Or.inl rfl) (v := .int (xi (x_raise Z) 14 0)) rfl d_KG_spoil_46 ?_
    refine zputN (Z' := (si (si (x_raise Z) 7 k b) 4 k (xi (x_raise Z) 14 0))) (v := .int (xi (x_raise Z) 14 0)) hC hd (e_key (show k < xn (x_cancel Z) 0 1 by rw [x_can_xn _ _ _ (by decide)]; exact hk)) rfl i_Key t_Key t_Key_ok n_Key 7 (by decide) z_124 rfl rfl rfl rfl (Nat.le_of_ble_eq_true rfl) (u_own (show k < xn (x_cancel Z) 0 1 by rw [x_can_xn _ _ _ (by decide)]; exact hk)) d_KG_spoil_49 (fun H locs hd => ?_)
    refine lv_aload_n hx hb d_KG_spoil_52 rfl (lv_at hl 1 rfl) ?_
    refine zget hC hd (e_kg hXr.kg) rfl i_KG 3 (by decide) q_83 (Or.inl rfl) (v := .int (xi (x_raise Z) 14 0)) rfl d_KG_spoil_53 ?_
    exact zfi hC hd hr hlk d_KG_spoil_56 (by unfold x_spoil; rw [hcl]; (repeat (first | (rw [if_pos]; rotate_left; first | assumption | decide) | (rw [if_neg]; rotate_left; first | assumption | decide))) <;> (try rfl)) (by unfold x_spoil; rw [hcl]; (repeat (first | (rw [if_pos]; rotate_left; first | assumption | decide) | (rw [if_neg]; rotate_left; first | assumption | decide))) <;> (try rfl))
  · refine lv_aload_n hx hb d_KG_spoil_30 rfl (lv_at hl 1 rfl) ?_
    refine zget hC hd (e_kg hX.kg) rfl i_KG 3 (by decide) q_83 (Or.inl rfl) (v := .int (xi Z 14 0)) rfl d_KG_spoil_31 ?_
    exact zfi hC hd hr hlk d_KG_spoil_34 (by unfold x_spoil; rw [hcl]; (repeat (first | (rw [if_pos]; rotate_left; first | assumption | decide) | (rw [if_neg]; rotate_left; first | assumption | decide))) <;> (try rfl)) (by unfold x_spoil; rw [hcl]; (repeat (first | (rw [if_pos]; rotate_left; first | assumption | decide) | (rw [if_neg]; rotate_left; first | assumption | decide))) <;> (try rfl))
theorem c_KG_spoil (l : Launch) (G : Gt) (ad : Nat → Nat → Nat) (ow : Nat → Nat × Nat) (Z : Zt) (hX : XS Z) (hcp : CancelPre Z) (k b : Int32) (hb01 : b = 0 ∨ b = 1) : Met l y_KG_spoil w_KG_spoil ({ frames := 4, cells := 0, slots := 0, locals := 85 }) (zPc G ad ow Z [.ref (ad 0 0), .int k, .int b]) (Qd G ad ow ((x_spoil Z k b).1) (some (.int (x_spoil Z k b).2))) 0 0 (zA G) := by
  rcases x_isFn_cases Z hX k with h0 | ⟨j, hj, rfl, h0, -⟩
  · exact c_KG_spoil_no l G ad ow Z hX k b h0
  · exact c_KG_spoil_yes l G ad ow Z hX hcp b hb01 j hj h0
set_option maxHeartbeats 4000000 in
theorem c_KG_begin_now (l : Launch) (G : Gt) (ad : Nat → Nat → Nat) (ow : Nat → Nat × Nat) (Z : Zt) (hX : XS Z) (w k : Int32) (hw : x_isWorker w = 0) : Met l y_KG_begin w_KG_begin ({ frames := 3, cells := 0, slots := 0, locals := 65 }) (zPc G ad ow Z [.ref (ad 0 0), .int w, .int k]) (Qd G ad ow ((x_beginR Z w k).1) (some (.int (x_beginR Z w k).2))) 0 0 (zA G) := by
  refine zopen (cc := b_KG_begin) (maxL := 4) (ret := (some FieldType.int)) (by decide) rfl (Nat.le_of_ble_eq_true rfl) ?_
  intro p e s m below meth c ls hC hr hlk hnm hd hl
  have hC : Cx G p c m s _ "KeyGraph" b_KG_begin 4 := hC
  have hl : lv_has ls 4 [(0, .ref (ad 0 0)), (1, .int w), (2, .int k)] := hl
  have hx := hC.1
  have hb := hC.2.1
  refine lv_iload_n hx hb d_KG_begin_0 rfl (lv_at hl 1 rfl) ?_
  refine zb_i (r := 0) hd (zrunS (n := 1) (rest := []) hC hd (c_KG_isWorker l G ad ow Z w 0 hw) q_418 q_419 q_1 q_420 rfl rfl rfl (by decide +kernel) ⟨by decide, by decide⟩ rfl hl.1 (Nat.le_of_ble_eq_true rfl) d_KG_begin_1 ⟨by decide, by decide⟩) (fun H locs hd => ?_)
  refine lv_if_eq (tgt := 27) hx hb d_KG_begin_4 (by decide) (fun _ => ?_) (fun c => absurd c (by decide))
  refine lv_iconst (v := (-1)) hx hb d_KG_begin_27 (by decide) ?_
  exact zfi hC hd hr hlk d_KG_begin_28 (by unfold x_beginR; (repeat (first | (rw [if_pos]; rotate_left; first | assumption | decide) | (rw [if_neg]; rotate_left; first | assumption | decide))) <;> (try rfl)) (by unfold x_beginR; (repeat (first | (rw [if_pos]; rotate_left; first | assumption | decide) | (rw [if_neg]; rotate_left; first | assumption | decide))) <;> (try rfl))
set_option maxHeartbeats 4000000 in
theorem c_KG_begin_nok (l : Launch) (G : Gt) (ad : Nat → Nat → Nat) (ow : Nat → Nat × Nat) (Z : Zt) (hX : XS Z) (u : Nat) (hu : u < 4) (k : Int32) (hw : x_isWorker (nI u) = 1) (h0 : x_isKey Z k = 0) : Met l y_KG_begin w_KG_begin ({ frames := 3, cells := 0, slots := 0, locals := 65 }) (zPc G ad ow Z [.ref (ad 0 0), .int (nI u), .int k]) (Qd G ad ow ((x_beginR Z (nI u) k).1) (some (.int (x_beginR Z (nI u) k).2))) 0 0 (zA G) := by
  refine zopen (cc := b_KG_begin) (maxL := 4) (ret := (some FieldType.int)) (by decide) rfl (Nat.le_of_ble_eq_true rfl) ?_
  intro p e s m below meth c ls hC hr hlk hnm hd hl
  have hC : Cx G p c m s _ "KeyGraph" b_KG_begin 4 := hC
  have hl : lv_has ls 4 [(0, .ref (ad 0 0)), (1, .int (nI u)), (2, .int k)] := hl
  have hx := hC.1
  have hb := hC.2.1
  have hwn : ¬ x_isWorker (nI u) = 0 := by rw [hw]; decide
  refine lv_iload_n hx hb d_KG_begin_0 rfl (lv_at hl 1 rfl) ?_
  refine zb_i (r := 1) hd (zrunS (n := 1) (rest := []) hC hd (c_KG_isWorker l G ad ow Z (nI u) 1 hw) q_418 q_419 q_1 q_420 rfl rfl rfl (by decide +kernel) ⟨by decide, by decide⟩ rfl hl.1 (Nat.le_of_ble_eq_true rfl) d_KG_begin_1 ⟨by decide, by decide⟩) (fun H locs hd => ?_)
  refine lv_if_eq (tgt := 27) hx hb d_KG_begin_4 (by decide) (fun c => absurd c (by decide)) (fun _ => ?_)
  refine lv_aload_n hx hb d_KG_begin_7 rfl (lv_at hl 0 rfl) ?_
  refine lv_iload_n hx hb d_KG_begin_8 rfl (lv_at hl 2 rfl) ?_
  refine zb_i (r := 0) hd (zrunV (n := 1) (rest := []) hC hd (e_kg hX.kg) rfl (c_KG_isKey l G ad ow Z hX k 0 h0) q_348 q_350 qp_4 q_1 q_351 rfl rfl rfl (by decide +kernel) ⟨by decide, by decide⟩ rfl hl.1 (Nat.le_of_ble_eq_true rfl) d_KG_begin_9 ⟨by decide, by decide⟩) (fun H locs hd => ?_)
  refine lv_if_eq (tgt := 27) hx hb d_KG_begin_12 (by decide) (fun _ => ?_) (fun c => absurd c (by decide))
  refine lv_iconst (v := (-1)) hx hb d_KG_begin_27 (by decide) ?_
  exact zfi hC hd hr hlk d_KG_begin_28 (by unfold x_beginR; (repeat (first | (rw [if_pos]; rotate_left; first | assumption | decide) | (rw [if_neg]; rotate_left; first | assumption | decide))) <;> (try rfl)) (by unfold x_beginR; (repeat (first | (rw [if_pos]; rotate_left; first | assumption | decide) | (rw [if_neg]; rotate_left; first | assumption | decide))) <;> (try rfl))
set_option maxHeartbeats 4000000 in
theorem c_KG_begin_yes (l : Launch) (G : Gt) (ad : Nat → Nat → Nat) (ow : Nat → Nat × Nat) (Z : Zt) (hX : XS Z) (hps : ∀ q, xn Z 9 q ≤ 40) (u : Nat) (hu : u < 4) (k : Nat) (hk : k < xn Z 0 1) (hk6 : x_isSure Z k = 0 → xn Z 1 k < 6) (hw : x_isWorker (nI u) = 1) (h0 : x_isKey Z (nI k) = 1) : Met l y_KG_begin w_KG_begin ({ frames := 3, cells := 0, slots := 0, locals := 65 }) (zPc G ad ow Z [.ref (ad 0 0), .int (nI u), .int (nI k)]) (Qd G ad ow ((x_beginR Z (nI u) (nI k)).1) (some (.int (x_beginR Z (nI u) (nI k)).2))) 0 0 (zA G) := by
  refine zopen (cc := b_KG_begin) (maxL := 4) (ret := (some FieldType.int)) (by decide) rfl (Nat.le_of_ble_eq_true rfl) ?_
  intro p e s m below meth c ls hC hr hlk hnm hd hl
  have hC : Cx G p c m s _ "KeyGraph" b_KG_begin 4 := hC
  have hl : lv_has ls 4 [(0, .ref (ad 0 0)), (1, .int (nI u)), (2, .int (nI k))] := hl
  have hx := hC.1
  have hb := hC.2.1
  have hwn : ¬ x_isWorker (nI u) = 0 := by rw [hw]; decide
  have h0n : ¬ x_isKey Z (nI k) = 0 := by rw [h0]; decide
  have h40 := hX.k40
  have hcl : (nI k).toNatClampNeg = k := nI_clamp (by omega)
  have hcu : (nI u).toNatClampNeg = u := nI_clamp (by omega)
  have hup := hps u
  refine lv_iload_n hx hb d_KG_begin_0 rfl (lv_at hl 1 rfl) ?_
  refine zb_i (r := 1) hd (zrunS (n := 1) (rest := []) hC hd (c_KG_isWorker l G ad ow Z (nI u) 1 hw) q_418 q_419 q_1 q_420 rfl rfl rfl (by decide +kernel) ⟨by decide, by decide⟩ rfl hl.1 (Nat.le_of_ble_eq_true rfl) d_KG_begin_1 ⟨by decide, by decide⟩) (fun H locs hd => ?_)
  refine lv_if_eq (tgt := 27) hx hb d_KG_begin_4 (by decide) (fun c => absurd c (by decide)) (fun _ => ?_)
  refine lv_aload_n hx hb d_KG_begin_7 rfl (lv_at hl 0 rfl) ?_
  refine lv_iload_n hx hb d_KG_begin_8 rfl (lv_at hl 2 rfl) ?_
  refine zb_i (r := 1) hd (zrunV (n := 1) (rest := []) hC hd (e_kg hX.kg) rfl (c_KG_isKey l G ad ow Z hX (nI k) 1 h0) q_348 q_350 qp_4 q_1 q_351 rfl rfl rfl (by decide +kernel) ⟨by decide, by decide⟩ rfl hl.1 (Nat.le_of_ble_eq_true rfl) d_KG_begin_9 ⟨by decide, by decide⟩) (fun H locs hd => ?_)
  refine lv_if_eq (tgt := 27) hx hb d_KG_begin_12 (by decide) (fun c => absurd c (by decide)) (fun _ => ?_)
  refine lv_aload_n hx hb d_KG_begin_15 rfl (lv_at hl 0 rfl) ?_
  refine zget hC hd (e_kg hX.kg) rfl i_KG 1 (by decide) q_81 (Or.inl rfl) (v := .ref (ad 8 0)) rfl d_KG_begin_16 ?_
  refine lv_iload_n hx hb d_KG_begin_19 rfl (lv_at hl 1 rfl) ?_
  refine zaaP (k := u) hC hd (e_piles hX.ps) (by omega) (by decide) rfl d_KG_begin_20 ?_
  refine zgetN hC hd (e_pile (hX.pl (by omega))) rfl i_Pile 1 (by decide) z_74 (Or.inl rfl) (v := .int (nI (xn Z 9 u))) rfl d_KG_begin_21 ?_
  refine zi_le (x := xn Z 9 u) (tgt := 29) (by omega) hx hb d_KG_begin_24 (by decide) (fun c24 => ?_) (fun c24 => ?_)
  · have c24' := zi_z c24
    refine lv_aload_n hx hb d_KG_begin_29 rfl (lv_at hl 0 rfl) ?_
    refine zget hC hd (e_kg hX.kg) rfl i_KG 0 (by decide) q_80 (Or.inl rfl) (v := .ref (ad 3 0)) rfl d_KG_begin_30 ?_
    refine lv_iload_n hx hb d_KG_begin_33 rfl (lv_at hl 2 rfl) ?_
    refine zb_a (r := (ad 1 k)) hd (zrunV (n := 1) (rest := []) hC hd (e_list hX.l0) rfl (c_get l G ad ow Z hX 0 k k hX.l0 (show k < xn Z 2 0 by rw [hX.kl]; exact hk) (hX.ke hk)) q_352 q_353 q_354 q_4 q_355 rfl rfl rfl (by decide +kernel) ⟨by decide, by decide⟩ rfl hl.1 (Nat.le_of_ble_eq_true rfl) d_KG_begin_34 ⟨by decide, by decide⟩) (fun H locs hd => ?_)
    refine zcast hC hd (e_key hk) q_105 d_KG_begin_37 ?_
    refine lv_astore_n (lv' := [(3, .ref (ad 1 k)), (0, .ref (ad 0 0)), (1, .int (nI u)), (2, .int (nI k))]) hx hb d_KG_begin_40 rfl hl (by decide) rfl (fun ls hl => ?_)
    refine lv_aload_n hx hb d_KG_begin_41 rfl (lv_at hl 1 rfl) ?_
    refine lv_aload_n hx hb d_KG_begin_42 rfl (lv_at hl 0 rfl) ?_
    refine zb_i (r := (x_isSure Z k)) hd (zrunV (n := 1) (rest := []) hC hd (e_kg hX.kg) rfl (c_KG_isSure l G ad ow Z hX k (x_isSure Z k) hk rfl) q_421 q_423 qp_9 q_1 q_424 rfl rfl rfl (by decide +kernel) ⟨by decide, by decide⟩ rfl hl.1 (Nat.le_of_ble_eq_true rfl) d_KG_begin_43 ⟨by decide, by decide⟩) (fun H locs hd => ?_)
    refine lv_if_eq (tgt := 51) hx hb d_KG_begin_46 (by decide) (fun c46 => ?_) (fun c46 => ?_)
    · refine lv_aload_n hx hb d_KG_begin_51 rfl (lv_at hl 0 rfl) ?_
      refine zgetN hC hd (e_key hk) rfl i_Key 15 (by decide) z_135 (Or.inl rfl) (v := .int (xi Z 8 k)) rfl d_KG_begin_52 ?_
      refine lv_if_lt (tgt := 61) hx hb d_KG_begin_55 (by decide) (fun c55 => ?_) (fun c55 => ?_)
      · refine lv_aload_n hx hb d_KG_begin_61 rfl (lv_at hl 1 rfl) ?_
        refine lv_iload_n hx hb d_KG_begin_62 rfl (lv_at hl 2 rfl) ?_
        refine lv_aload_n hx hb d_KG_begin_63 rfl (lv_at hl 0 rfl) ?_
        refine zb_v hd (zrunV (n := 2) (rest := []) hC hd (e_kg hX.kg) rfl (c_KG_put l G ad ow Z hX u k (by omega) hk (show xn Z 9 u < 40 by omega) (hk6 c46)) q_425 q_427 qp_10 q_1 q_428 rfl rfl rfl (by decide +kernel) ⟨by decide, by decide⟩ rfl hl.1 (Nat.le_of_ble_eq_true rfl) d_KG_begin_64 ⟨by decide, by decide⟩) (fun H locs hd => ?_)
        refine lv_iconst (v := 1) hx hb d_KG_begin_67 (by decide) ?_
        exact zfi hC hd hr hlk d_KG_begin_68 (by unfold x_beginR; rw [hcl, hcu]; (repeat (first | (rw [if_pos]; rotate_left; first | assumption | decide) | (rw [if_neg]; rotate_left; first | assumption | decide))) <;> (try rfl)) (by unfold x_beginR; rw [hcl, hcu]; (repeat (first | (rw [if_pos]; rotate_left; first | assumption | decide) | (rw [if_neg]; rotate_left; first | assumption | decide))) <;> (try rfl))
      · refine lv_bipush (v := (-2)) hx hb d_KG_begin_58 (by decide) ?_
        exact zfi hC hd hr hlk d_KG_begin_60 (by unfold x_beginR; rw [hcl, hcu]; (repeat (first | (rw [if_pos]; rotate_left; first | assumption | decide) | (rw [if_neg]; rotate_left; first | assumption | decide))) <;> (try rfl)) (by unfold x_beginR; rw [hcl, hcu]; (repeat (first | (rw [if_pos]; rotate_left; first | assumption | decide) | (rw [if_neg]; rotate_left; first | assumption | decide))) <;> (try rfl))
    · refine lv_iconst (v := 0) hx hb d_KG_begin_49 (by decide) ?_
      exact zfi hC hd hr hlk d_KG_begin_50 (by unfold x_beginR; rw [hcl, hcu]; (repeat (first | (rw [if_pos]; rotate_left; first | assumption | decide) | (rw [if_neg]; rotate_left; first | assumption | decide))) <;> (try rfl)) (by unfold x_beginR; rw [hcl, hcu]; (repeat (first | (rw [if_pos]; rotate_left; first | assumption | decide) | (rw [if_neg]; rotate_left; first | assumption | decide))) <;> (try rfl))
  · have c24' := zi_p c24
    refine lv_iconst (v := (-1)) hx hb d_KG_begin_27 (by decide) ?_
    exact zfi hC hd hr hlk d_KG_begin_28 (by unfold x_beginR; rw [hcl, hcu]; (repeat (first | (rw [if_pos]; rotate_left; first | assumption | decide) | (rw [if_neg]; rotate_left; first | assumption | decide))) <;> (try rfl)) (by unfold x_beginR; rw [hcl, hcu]; (repeat (first | (rw [if_pos]; rotate_left; first | assumption | decide) | (rw [if_neg]; rotate_left; first | assumption | decide))) <;> (try rfl))
theorem x_notsure {Z : Zt} {k : Nat} (h6 : xn Z 1 k ≤ 6) (h : x_isSure Z k = 0) : xn Z 1 k < 6 := by
  by_cases h1 : xn Z 1 k = 6
  · unfold x_isSure at h; rw [if_pos h1] at h; exact absurd h (by decide)
  · omega
theorem c_KG_begin (l : Launch) (G : Gt) (ad : Nat → Nat → Nat) (ow : Nat → Nat × Nat) (Z : Zt) (hX : XS Z) (hps : ∀ q, xn Z 9 q ≤ 40) (h6 : ∀ q, xn Z 1 q ≤ 6) (w k : Int32) : Met l y_KG_begin w_KG_begin ({ frames := 3, cells := 0, slots := 0, locals := 65 }) (zPc G ad ow Z [.ref (ad 0 0), .int w, .int k]) (Qd G ad ow ((x_beginR Z w k).1) (some (.int (x_beginR Z w k).2))) 0 0 (zA G) := by
  have h40 := hX.k40
  have hkl := hX.kl
  rcases x_isWorker_cases w with hw | ⟨u, hu, rfl, hw⟩
  · exact c_KG_begin_now l G ad ow Z hX w k hw
  · rcases x_isKey_cases Z k (by omega) with h0 | ⟨j, hj, rfl, h0⟩
    · exact c_KG_begin_nok l G ad ow Z hX u hu k hw h0
    · exact c_KG_begin_yes l G ad ow Z hX hps u hu j (by omega) (x_notsure (h6 j)) hw h0
set_option maxHeartbeats 4000000 in
theorem c_KG_step_no (l : Launch) (G : Gt) (ad : Nat → Nat → Nat) (ow : Nat → Nat × Nat) (Z : Zt) (hX : XS Z) (w : Int32) (hw : x_isWorker w = 0) : Met l y_KG_step w_KG_step ({ frames := 6, cells := 0, slots := 0, locals := 136 }) (zPc G ad ow Z [.ref (ad 0 0), .int w]) (Qd G ad ow ((x_step Z w).1) (some (.int (x_step Z w).2))) 0 0 (zA G) := by
  refine zopen (cc := b_KG_step) (maxL := 2) (ret := (some FieldType.int)) (by decide) rfl (Nat.le_of_ble_eq_true rfl) ?_
  intro p e s m below meth c ls hC hr hlk hnm hd hl
  have hC : Cx G p c m s _ "KeyGraph" b_KG_step 2 := hC
  have hl : lv_has ls 2 [(0, .ref (ad 0 0)), (1, .int w)] := hl
  have hx := hC.1
  have hb := hC.2.1
  refine lv_iload_n hx hb d_KG_step_0 rfl (lv_at hl 1 rfl) ?_
  refine zb_i (r := 0) hd (zrunS (n := 1) (rest := []) hC hd (c_KG_isWorker l G ad ow Z w 0 hw) q_418 q_419 q_1 q_420 rfl rfl rfl (by decide +kernel) ⟨by decide, by decide⟩ rfl hl.1 (Nat.le_of_ble_eq_true rfl) d_KG_step_1 ⟨by decide, by decide⟩) (fun H locs hd => ?_)
  refine lv_if_eq (tgt := 15) hx hb d_KG_step_4 (by decide) (fun _ => ?_) (fun c => absurd c (by decide))
  refine lv_iconst (v := (-1)) hx hb d_KG_step_15 (by decide) ?_
  exact zfi hC hd hr hlk d_KG_step_16 (by unfold x_step; (repeat (first | (rw [if_pos]; rotate_left; first | assumption | decide) | (rw [if_neg]; rotate_left; first | assumption | decide))) <;> (try rfl)) (by unfold x_step; (repeat (first | (rw [if_pos]; rotate_left; first | assumption | decide) | (rw [if_neg]; rotate_left; first | assumption | decide))) <;> (try rfl))
set_option maxHeartbeats 4000000 in
theorem c_KG_step_yes (l : Launch) (G : Gt) (ad : Nat → Nat → Nat) (ow : Nat → Nat × Nat) (Z : Zt) (hX : XS Z) (u : Nat) (hu : u < 4) (hw : x_isWorker (nI u) = 1) (hsp : StepPre Z u) (hab : ∀ k, xn Z 6 k ≤ 2147483647 ∧ xn Z 4 k ≤ 2147483647) : Met l y_KG_step w_KG_step ({ frames := 6, cells := 0, slots := 0, locals := 136 }) (zPc G ad ow Z [.ref (ad 0 0), .int (nI u)]) (Qd G ad ow ((x_step Z (nI u)).1) (some (.int (x_step Z (nI u)).2))) 0 0 (zA G) := by
  refine zopen (cc := b_KG_step) (maxL := 2) (ret := (some FieldType.int)) (by decide) rfl (Nat.le_of_ble_eq_true rfl) ?_
  intro p e s m below meth c ls hC hr hlk hnm hd hl
  have hC : Cx G p c m s _ "KeyGraph" b_KG_step 2 := hC
  have hl : lv_has ls 2 [(0, .ref (ad 0 0)), (1, .int (nI u))] := hl
  have hx := hC.1
  have hb := hC.2.1
  have hwn : ¬ x_isWorker (nI u) = 0 := by rw [hw]; decide
  have hcu : (nI u).toNatClampNeg = u := nI_clamp (by omega)
  refine lv_iload_n hx hb d_KG_step_0 rfl (lv_at hl 1 rfl) ?_
  refine zb_i (r := 1) hd (zrunS (n := 1) (rest := []) hC hd (c_KG_isWorker l G ad ow Z (nI u) 1 hw) q_418 q_419 q_1 q_420 rfl rfl rfl (by decide +kernel) ⟨by decide, by decide⟩ rfl hl.1 (Nat.le_of_ble_eq_true rfl) d_KG_step_1 ⟨by decide, by decide⟩) (fun H locs hd => ?_)
  refine lv_if_eq (tgt := 15) hx hb d_KG_step_4 (by decide) (fun c => absurd c (by decide)) (fun _ => ?_)
  refine lv_aload_n hx hb d_KG_step_7 rfl (lv_at hl 0 rfl) ?_
  refine lv_iload_n hx hb d_KG_step_8 rfl (lv_at hl 1 rfl) ?_
  refine zb_i (r := ((x_stepOf Z u).2)) hd (zrunV (n := 1) (rest := []) hC hd (e_kg hX.kg) rfl (c_KG_stepOf l G ad ow Z u hsp hab) q_449 q_451 qp_11 q_1 q_452 rfl rfl rfl (by decide +kernel) ⟨by decide, by decide⟩ rfl hl.1 (Nat.le_of_ble_eq_true rfl) d_KG_step_9 ⟨by decide, by decide⟩) (fun H locs hd => ?_)
  refine lv_goto (tgt := 16) hx hb d_KG_step_12 (by decide) ?_
  exact zfi hC hd hr hlk d_KG_step_16 (by unfold x_step; rw [hcu]; (repeat (first | (rw [if_pos]; rotate_left; first | assumption | decide) | (rw [if_neg]; rotate_left; first | assumption | decide))) <;> (try rfl)) (by unfold x_step; rw [hcu]; (repeat (first | (rw [if_pos]; rotate_left; first | assumption | decide) | (rw [if_neg]; rotate_left; first | assumption | decide))) <;> (try rfl))
def x_runs : Nat → Zt → Int32 → Zt → Int32 → Prop
  | 0, _, _, _, _ => False
  | n + 1, Z, g, Z', g' => if g = 0 then (Z' = Z ∧ g' = g) else if g = 3 then (Z' = Z ∧ g' = g) else (StepPre Z 4 ∧ ∀ k, xn Z 6 k ≤ 2147483647 ∧ xn Z 4 k ≤ 2147483647) ∧ x_runs n (x_stepOf Z 4).1 (x_stepOf Z 4).2 Z' g'
theorem x_put_xn (Z : Zt) (u k t i : Nat) (h1 : t ≠ 9) (h2 : t ≠ 6) (h3 : t ≠ 5) : xn (x_put Z u k) t i = xn Z t i := by
  unfold x_put
  rw [x_begin_xn]
  unfold x_putA
  rw [xn_sn, if_neg (fun q => h3 q.1), xn_si, xn_sn, if_neg (fun q => h2 q.1), xn_si, xn_sn, if_neg (fun q => h1 q.1), xn_sc]
theorem x_put_XS {Z : Zt} (hX : XS Z) (u k : Nat) : XS (x_put Z u k) := by
  refine hX.of (fun i => x_put_xn Z u k 0 i (by decide) (by decide) (by decide)) (fun i => x_put_xn Z u k 2 i (by decide) (by decide) (by decide)) (fun i => x_put_xn Z u k 3 i (by decide) (by decide) (by decide)) (fun i j => ?_) (fun q hq => ?_)
  · unfold x_put; rw [x_begin_xc]; rfl
  · rw [x_put_xn Z u k 7 q (by decide) (by decide) (by decide), x_put_xn Z u k 8 q (by decide) (by decide) (by decide)]; exact hX.2.2.2.2.2 q hq
set_option maxHeartbeats 4000000 in
theorem lq_KG_run {p : Program} {l : Launch} {e : Env} {s : State} {m : MethodId} {args : Array Value} {below : List Frame} {meth : Method} {c : Code} {Q : State → Prop} {G : Gt} {ad : Nat → Nat → Nat} {ow : Nat → Nat × Nat} (k : Nat) (Z9 : Zt) (g9 : Int32) (hC : Cx G p c m s args "KeyGraph" b_KG_run 5) : ∀ (n : Nat) (Z : Zt) (g : Int32) (ls : Array Slot) (H : Heap) (locs : List Loc), x_runs n Z g Z9 g9 → (g = 0 ∨ g = 3) → Dy G ad ow Z s H locs → lv_has ls 5 [(3, .int g), (2, .ref (ad 1 k)), (0, .ref (ad 0 0)), (1, .int (nI k))] → (∀ (ls : Array Slot) (H : Heap) (locs : List Loc), Dy G ad ow Z9 s H locs → lv_has ls 5 [(3, .int g9), (2, .ref (ad 1 k)), (0, .ref (ad 0 0)), (1, .int (nI k))] → W p l e ({ frames := 6, cells := 0, slots := 0, locals := 136 } : Room) s m args below meth c H locs 0 0 Q (F0 m 66 ls [])) → W p l e ({ frames := 6, cells := 0, slots := 0, locals := 136 } : Room) s m args below meth c H locs 0 0 Q (F0 m 48 ls []) := by
  have hx := hC.1
  have hb := hC.2.1
  intro n Z g ls H locs hrun hg hd hl kk
  cases n with
  | zero => exact hrun.elim
  | succ n =>
    unfold x_runs at hrun
    refine lv_iload_n hx hb d_KG_run_48 rfl (lv_at hl 0 rfl) ?_
    refine lv_if_eq (tgt := 66) hx hb d_KG_run_49 (by decide) (fun c49 => ?_) (fun c49 => ?_)
    · rw [if_pos c49] at hrun
      obtain ⟨rfl, rfl⟩ := hrun
      exact kk ls H locs hd hl
    · refine lv_iload_n hx hb d_KG_run_52 rfl (lv_at hl 0 rfl) ?_
      refine lv_iconst (v := 3) hx hb d_KG_run_53 (by decide) ?_
      refine lv_icmp_eq (tgt := 66) hx hb d_KG_run_54 (by decide) (fun c54 => ?_) (fun c54 => absurd hg (fun q => q.elim c49 c54))
      rw [if_neg c49, if_pos c54] at hrun
      obtain ⟨rfl, rfl⟩ := hrun
      exact kk ls H locs hd hl
set_option maxHeartbeats 4000000 in
theorem lp_KG_run {p : Program} {l : Launch} {e : Env} {s : State} {m : MethodId} {args : Array Value} {below : List Frame} {meth : Method} {c : Code} {Q : State → Prop} {G : Gt} {ad : Nat → Nat → Nat} {ow : Nat → Nat × Nat} (k : Nat) (Z9 : Zt) (g9 : Int32) (hC : Cx G p c m s args "KeyGraph" b_KG_run 5) : ∀ (n : Nat) (Z : Zt) (g : Int32) (ls : Array Slot) (H : Heap) (locs : List Loc), XS Z → x_runs n Z g Z9 g9 → Dy G ad ow Z s H locs → lv_has ls 5 [(3, .int g), (2, .ref (ad 1 k)), (0, .ref (ad 0 0)), (1, .int (nI k))] → (∀ (ls : Array Slot) (H : Heap) (locs : List Loc), Dy G ad ow Z9 s H locs → lv_has ls 5 [(3, .int g9), (2, .ref (ad 1 k)), (0, .ref (ad 0 0)), (1, .int (nI k))] → W p l e ({ frames := 6, cells := 0, slots := 0, locals := 136 } : Room) s m args below meth c H locs 0 0 Q (F0 m 66 ls [])) → W p l e ({ frames := 6, cells := 0, slots := 0, locals := 136 } : Room) s m args below meth c H locs 0 0 Q (F0 m 48 ls []) := by
  have hx := hC.1
  have hb := hC.2.1
  intro n
  induction n with
  | zero => exact fun Z g ls H locs hX hrun => hrun.elim
  | succ n ih =>
    intro Z g ls H locs hX hrun hd hl kk
    unfold x_runs at hrun
    refine lv_iload_n hx hb d_KG_run_48 rfl (lv_at hl 0 rfl) ?_
    refine lv_if_eq (tgt := 66) hx hb d_KG_run_49 (by decide) (fun c49 => ?_) (fun c49 => ?_)
    · rw [if_pos c49] at hrun
      obtain ⟨rfl, rfl⟩ := hrun
      exact kk ls H locs hd hl
    · refine lv_iload_n hx hb d_KG_run_52 rfl (lv_at hl 0 rfl) ?_
      refine lv_iconst (v := 3) hx hb d_KG_run_53 (by decide) ?_
      refine lv_icmp_eq (tgt := 66) hx hb d_KG_run_54 (by decide) (fun c54 => ?_) (fun c54 => ?_)
      · rw [if_neg c49, if_pos c54] at hrun
        obtain ⟨rfl, rfl⟩ := hrun
        exact kk ls H locs hd hl
      · rw [if_neg c49, if_neg c54] at hrun
        obtain ⟨⟨hsp, hab⟩, hrun⟩ := hrun
        refine lv_aload_n hx hb d_KG_run_57 rfl (lv_at hl 2 rfl) ?_
        refine lv_iconst (v := 4) hx hb d_KG_run_58 (by decide) ?_
        refine zb_i (r := ((x_stepOf Z 4).2)) hd (zrunV (n := 1) (rest := []) hC hd (e_kg hX.kg) rfl (c_KG_stepOf l G ad ow Z 4 hsp hab) q_449 q_451 qp_11 q_1 q_452 rfl rfl rfl (by decide +kernel) ⟨by decide, by decide⟩ rfl hl.1 (Nat.le_of_ble_eq_true rfl) d_KG_run_59 ⟨by decide, by decide⟩) (fun H locs hd => ?_)
        refine lv_istore_n (lv' := [(3, .int ((x_stepOf Z 4).2)), (2, .ref (ad 1 k)), (0, .ref (ad 0 0)), (1, .int (nI k))]) hx hb d_KG_run_62 rfl hl (by decide) rfl (fun ls hl => ?_)
        refine lv_goto (tgt := 48) hx hb d_KG_run_63 (by decide) ?_
        by_cases hg0 : (x_stepOf Z 4).2 = 0 ∨ (x_stepOf Z 4).2 = 3
        · exact lq_KG_run k Z9 g9 hC n _ _ ls H locs hrun hg0 hd (lv_sub hl [0, 1, 2, 3] rfl) kk
        · refine ih _ _ ls H locs ?_ hrun hd (lv_sub hl [0, 1, 2, 3] rfl) kk
          cases n with
          | zero => exact hrun.elim
          | succ n =>
            unfold x_runs at hrun
            rw [if_neg (fun q => hg0 (Or.inl q)), if_neg (fun q => hg0 (Or.inr q))] at hrun
            exact hrun.1.1.1
set_option maxHeartbeats 4000000 in
theorem lc_KG_run {p : Program} {l : Launch} {e : Env} {s : State} {m : MethodId} {args : Array Value} {below : List Frame} {meth : Method} {c : Code} {Q : State → Prop} {G : Gt} {ad : Nat → Nat → Nat} {ow : Nat → Nat × Nat} (u : Nat) (hu : u < 5) (k : Nat) (g : Int32) (hC : Cx G p c m s args "KeyGraph" b_KG_run 5) : ∀ (n : Nat) (Z : Zt) (ls : Array Slot) (H : Heap) (locs : List Loc), xn Z 9 u = n → XS Z → PileOk Z u → Dy G ad ow Z s H locs → lv_has ls 5 [(4, .ref (ad 6 u)), (3, .int g), (2, .ref (ad 1 k)), (0, .ref (ad 0 0)), (1, .int (nI k))] → (∀ (ls : Array Slot) (H : Heap) (locs : List Loc), Dy G ad ow (x_clr u Z n) s H locs → lv_has ls 5 [(4, .ref (ad 6 u)), (3, .int g), (2, .ref (ad 1 k)), (0, .ref (ad 0 0)), (1, .int (nI k))] → W p l e ({ frames := 6, cells := 0, slots := 0, locals := 136 } : Room) s m args below meth c H locs 0 0 Q (F0 m 110 ls [])) → W p l e ({ frames := 6, cells := 0, slots := 0, locals := 136 } : Room) s m args below meth c H locs 0 0 Q (F0 m 79 ls []) := by
  have hx := hC.1
  have hb := hC.2.1
  intro n
  induction n with
  | zero =>
    intro Z ls H locs hn hX hp hd hl kk
    refine lv_aload hx hb d_KG_run_79 (lv_at hl 0 rfl) ?_
    refine zgetN hC hd (e_pile (hX.pl hu)) rfl i_Pile 1 (by decide) z_74 (Or.inl rfl) (v := .int (nI (xn Z 9 u))) rfl d_KG_run_81 ?_
    refine zi_le (x := xn Z 9 u) (tgt := 110) (by omega) hx hb d_KG_run_84 (by decide) (fun c84 => ?_) (fun c84 => absurd hn (by omega))
    exact kk ls H locs hd hl
  | succ n ih =>
    intro Z ls H locs hn hX hp hd hl kk
    obtain ⟨h40, hq⟩ := hp
    obtain ⟨k, hkn, hk⟩ := hq n (by omega)
    have hne : xc Z 7 u (xn Z 9 u - 1) = k + 1 := by rw [show xn Z 9 u - 1 = n by omega]; exact hk
    refine lv_aload hx hb d_KG_run_79 (lv_at hl 0 rfl) ?_
    refine zgetN hC hd (e_pile (hX.pl hu)) rfl i_Pile 1 (by decide) z_74 (Or.inl rfl) (v := .int (nI (xn Z 9 u))) rfl d_KG_run_81 ?_
    refine zi_le (x := xn Z 9 u) (tgt := 110) (by omega) hx hb d_KG_run_84 (by decide) (fun c84 => absurd hn (by omega)) (fun c84 => ?_)
    refine lv_aload hx hb d_KG_run_87 (lv_at hl 0 rfl) ?_
    refine zb_a (r := (ad 1 k)) hd (zrunV (n := 0) (rest := []) hC hd (e_pile (hX.pl hu)) rfl (c_Pile_top l G ad ow Z hX u hu (by omega) (by omega) k hne) q_394 q_395 q_396 q_5 q_397 rfl rfl rfl (by decide +kernel) ⟨by decide, by decide⟩ rfl hl.1 (Nat.le_of_ble_eq_true rfl) d_KG_run_89 ⟨by decide, by decide⟩) (fun H locs hd => ?_)
    refine lv_iconst (v := (-1)) hx hb d_KG_run_92 (by decide) ?_
    refine zputN (Z' := (si Z 8 k (-1))) (v := .int (-1)) hC hd (e_key hkn) rfl i_Key t_Key t_Key_ok n_Key 15 (by decide) z_135 rfl rfl rfl rfl (Nat.le_of_ble_eq_true rfl) (u_worker hkn) d_KG_run_93 (fun H locs hd => ?_)
    refine lv_aload hx hb d_KG_run_96 (lv_at hl 0 rfl) ?_
    refine lv_dup hx hb d_KG_run_98 rfl ?_
    refine zgetN hC hd (e_pile (hX.pl hu)) rfl i_Pile 1 (by decide) z_74 (Or.inl rfl) (v := .int (nI (xn Z 9 u))) rfl d_KG_run_99 ?_
    refine lv_iconst (v := 1) hx hb d_KG_run_102 (by decide) ?_
    refine zsubN (x := xn Z 9 u) (y := 1) (by omega) hx hb d_KG_run_103 ?_
    refine zputN (Z' := (sn (si Z 8 k (-1)) 9 u ((xn Z 9 u) - 1))) (v := .int (nI ((xn Z 9 u) - 1))) hC hd (e_pile (hX.pl hu)) rfl i_Pile t_Pile t_Pile_ok n_Pile 1 (by decide) z_74 rfl rfl rfl rfl (Nat.le_of_ble_eq_true rfl) (u_psz (hX.pl hu)) d_KG_run_104 (fun H locs hd => ?_)
    refine lv_goto (tgt := 79) hx hb d_KG_run_107 (by decide) ?_
    have ez : (sn (si Z 8 k (-1)) 9 u ((xn Z 9 u) - 1)) = sn (si Z 8 (xc Z 7 u n - 1) (-1)) 9 u n := by rw [show xn Z 9 u - 1 = n by omega, show xc Z 7 u n - 1 = k by omega]
    have hd := Dy.eq hd ez
    refine ih (sn (si Z 8 (xc Z 7 u n - 1) (-1)) 9 u n) ls H locs (by rw [xn_sn, if_pos ⟨rfl, rfl⟩]) hX ⟨by rw [xn_sn, if_pos ⟨rfl, rfl⟩]; omega, fun j hj => hq j (by rw [xn_sn, if_pos ⟨rfl, rfl⟩] at hj; omega)⟩ hd (lv_sub hl [0, 1, 2, 3, 4] rfl) (fun ls H locs hd hl => kk ls H locs hd ?_)
    exact hl
set_option maxHeartbeats 4000000 in
theorem c_KG_run_no (l : Launch) (G : Gt) (ad : Nat → Nat → Nat) (ow : Nat → Nat × Nat) (Z : Zt) (hX : XS Z) (k : Int32) (h0 : x_isKey Z k = 0) : Met l y_KG_run w_KG_run ({ frames := 6, cells := 0, slots := 0, locals := 136 }) (zPc G ad ow Z [.ref (ad 0 0), .int k]) (Qd G ad ow Z (some (.int (-1)))) 0 0 (zA G) := by
  refine zopen (cc := b_KG_run) (maxL := 5) (ret := (some FieldType.int)) (by decide) rfl (Nat.le_of_ble_eq_true rfl) ?_
  intro p e s m below meth c ls hC hr hlk hnm hd hl
  have hC : Cx G p c m s _ "KeyGraph" b_KG_run 5 := hC
  have hl : lv_has ls 5 [(0, .ref (ad 0 0)), (1, .int k)] := hl
  have hx := hC.1
  have hb := hC.2.1
  refine lv_aload_n hx hb d_KG_run_0 rfl (lv_at hl 0 rfl) ?_
  refine lv_iload_n hx hb d_KG_run_1 rfl (lv_at hl 1 rfl) ?_
  refine zb_i (r := 0) hd (zrunV (n := 1) (rest := []) hC hd (e_kg hX.kg) rfl (c_KG_isKey l G ad ow Z hX k 0 h0) q_348 q_350 qp_4 q_1 q_351 rfl rfl rfl (by decide +kernel) ⟨by decide, by decide⟩ rfl hl.1 (Nat.le_of_ble_eq_true rfl) d_KG_run_2 ⟨by decide, by decide⟩) (fun H locs hd => ?_)
  refine lv_if_ne (tgt := 10) hx hb d_KG_run_5 (by decide) (fun c => absurd c (by decide)) (fun _ => ?_)
  refine lv_iconst (v := (-1)) hx hb d_KG_run_8 (by decide) ?_
  exact zfi hC hd hr hlk d_KG_run_9 rfl rfl
set_option maxHeartbeats 4000000 in
theorem c_KG_run_sure (l : Launch) (G : Gt) (ad : Nat → Nat → Nat) (ow : Nat → Nat × Nat) (Z : Zt) (hX : XS Z) (k : Nat) (hk : k < xn Z 0 1) (h0 : x_isKey Z (nI k) = 1) (h1 : x_isSure Z k = 1) : Met l y_KG_run w_KG_run ({ frames := 6, cells := 0, slots := 0, locals := 136 }) (zPc G ad ow Z [.ref (ad 0 0), .int (nI k)]) (Qd G ad ow Z (some (.int (xi Z 1 k)))) 0 0 (zA G) := by
  refine zopen (cc := b_KG_run) (maxL := 5) (ret := (some FieldType.int)) (by decide) rfl (Nat.le_of_ble_eq_true rfl) ?_
  intro p e s m below meth c ls hC hr hlk hnm hd hl
  have hC : Cx G p c m s _ "KeyGraph" b_KG_run 5 := hC
  have hl : lv_has ls 5 [(0, .ref (ad 0 0)), (1, .int (nI k))] := hl
  have hx := hC.1
  have hb := hC.2.1
  have h40 := hX.k40
  refine lv_aload_n hx hb d_KG_run_0 rfl (lv_at hl 0 rfl) ?_
  refine lv_iload_n hx hb d_KG_run_1 rfl (lv_at hl 1 rfl) ?_
  refine zb_i (r := 1) hd (zrunV (n := 1) (rest := []) hC hd (e_kg hX.kg) rfl (c_KG_isKey l G ad ow Z hX (nI k) 1 h0) q_348 q_350 qp_4 q_1 q_351 rfl rfl rfl (by decide +kernel) ⟨by decide, by decide⟩ rfl hl.1 (Nat.le_of_ble_eq_true rfl) d_KG_run_2 ⟨by decide, by decide⟩) (fun H locs hd => ?_)
  refine lv_if_ne (tgt := 10) hx hb d_KG_run_5 (by decide) (fun _ => ?_) (fun c => absurd c (by decide))
  refine lv_aload_n hx hb d_KG_run_10 rfl (lv_at hl 0 rfl) ?_
  refine zget hC hd (e_kg hX.kg) rfl i_KG 0 (by decide) q_80 (Or.inl rfl) (v := .ref (ad 3 0)) rfl d_KG_run_11 ?_
  refine lv_iload_n hx hb d_KG_run_14 rfl (lv_at hl 1 rfl) ?_
  refine zb_a (r := (ad 1 k)) hd (zrunV (n := 1) (rest := []) hC hd (e_list hX.l0) rfl (c_get l G ad ow Z hX 0 k k hX.l0 (show k < xn Z 2 0 by rw [hX.kl]; exact hk) (hX.ke hk)) q_352 q_353 q_354 q_4 q_355 rfl rfl rfl (by decide +kernel) ⟨by decide, by decide⟩ rfl hl.1 (Nat.le_of_ble_eq_true rfl) d_KG_run_15 ⟨by decide, by decide⟩) (fun H locs hd => ?_)
  refine zcast hC hd (e_key hk) q_105 d_KG_run_18 ?_
  refine lv_astore_n (lv' := [(2, .ref (ad 1 k)), (0, .ref (ad 0 0)), (1, .int (nI k))]) hx hb d_KG_run_21 rfl hl (by decide) rfl (fun ls hl => ?_)
  refine lv_aload_n hx hb d_KG_run_22 rfl (lv_at hl 1 rfl) ?_
  refine lv_aload_n hx hb d_KG_run_23 rfl (lv_at hl 0 rfl) ?_
  refine zb_i (r := 1) hd (zrunV (n := 1) (rest := []) hC hd (e_kg hX.kg) rfl (c_KG_isSure l G ad ow Z hX k 1 hk h1) q_421 q_423 qp_9 q_1 q_424 rfl rfl rfl (by decide +kernel) ⟨by decide, by decide⟩ rfl hl.1 (Nat.le_of_ble_eq_true rfl) d_KG_run_24 ⟨by decide, by decide⟩) (fun H locs hd => ?_)
  refine lv_if_ne (tgt := 113) hx hb d_KG_run_27 (by decide) (fun _ => ?_) (fun c => absurd c (by decide))
  refine lv_aload_n hx hb d_KG_run_113 rfl (lv_at hl 0 rfl) ?_
  refine zgetN hC hd (e_key hk) rfl i_Key 3 (by decide) z_119 (Or.inl rfl) (v := .int (xi Z 1 k)) rfl d_KG_run_114 ?_
  exact zfi hC hd hr hlk d_KG_run_117 rfl rfl
set_option maxHeartbeats 4000000 in
theorem c_KG_run_on (l : Launch) (G : Gt) (ad : Nat → Nat → Nat) (ow : Nat → Nat × Nat) (Z : Zt) (hX : XS Z) (k : Nat) (hk : k < xn Z 0 1) (h0 : x_isKey Z (nI k) = 1) (h1 : x_isSure Z k = 0) (h2 : ¬ xi Z 8 k < 0) : Met l y_KG_run w_KG_run ({ frames := 6, cells := 0, slots := 0, locals := 136 }) (zPc G ad ow Z [.ref (ad 0 0), .int (nI k)]) (Qd G ad ow Z (some (.int (-2)))) 0 0 (zA G) := by
  refine zopen (cc := b_KG_run) (maxL := 5) (ret := (some FieldType.int)) (by decide) rfl (Nat.le_of_ble_eq_true rfl) ?_
  intro p e s m below meth c ls hC hr hlk hnm hd hl
  have hC : Cx G p c m s _ "KeyGraph" b_KG_run 5 := hC
  have hl : lv_has ls 5 [(0, .ref (ad 0 0)), (1, .int (nI k))] := hl
  have hx := hC.1
  have hb := hC.2.1
  have h40 := hX.k40
  refine lv_aload_n hx hb d_KG_run_0 rfl (lv_at hl 0 rfl) ?_
  refine lv_iload_n hx hb d_KG_run_1 rfl (lv_at hl 1 rfl) ?_
  refine zb_i (r := 1) hd (zrunV (n := 1) (rest := []) hC hd (e_kg hX.kg) rfl (c_KG_isKey l G ad ow Z hX (nI k) 1 h0) q_348 q_350 qp_4 q_1 q_351 rfl rfl rfl (by decide +kernel) ⟨by decide, by decide⟩ rfl hl.1 (Nat.le_of_ble_eq_true rfl) d_KG_run_2 ⟨by decide, by decide⟩) (fun H locs hd => ?_)
  refine lv_if_ne (tgt := 10) hx hb d_KG_run_5 (by decide) (fun _ => ?_) (fun c => absurd c (by decide))
  refine lv_aload_n hx hb d_KG_run_10 rfl (lv_at hl 0 rfl) ?_
  refine zget hC hd (e_kg hX.kg) rfl i_KG 0 (by decide) q_80 (Or.inl rfl) (v := .ref (ad 3 0)) rfl d_KG_run_11 ?_
  refine lv_iload_n hx hb d_KG_run_14 rfl (lv_at hl 1 rfl) ?_
  refine zb_a (r := (ad 1 k)) hd (zrunV (n := 1) (rest := []) hC hd (e_list hX.l0) rfl (c_get l G ad ow Z hX 0 k k hX.l0 (show k < xn Z 2 0 by rw [hX.kl]; exact hk) (hX.ke hk)) q_352 q_353 q_354 q_4 q_355 rfl rfl rfl (by decide +kernel) ⟨by decide, by decide⟩ rfl hl.1 (Nat.le_of_ble_eq_true rfl) d_KG_run_15 ⟨by decide, by decide⟩) (fun H locs hd => ?_)
  refine zcast hC hd (e_key hk) q_105 d_KG_run_18 ?_
  refine lv_astore_n (lv' := [(2, .ref (ad 1 k)), (0, .ref (ad 0 0)), (1, .int (nI k))]) hx hb d_KG_run_21 rfl hl (by decide) rfl (fun ls hl => ?_)
  refine lv_aload_n hx hb d_KG_run_22 rfl (lv_at hl 1 rfl) ?_
  refine lv_aload_n hx hb d_KG_run_23 rfl (lv_at hl 0 rfl) ?_
  refine zb_i (r := 0) hd (zrunV (n := 1) (rest := []) hC hd (e_kg hX.kg) rfl (c_KG_isSure l G ad ow Z hX k 0 hk h1) q_421 q_423 qp_9 q_1 q_424 rfl rfl rfl (by decide +kernel) ⟨by decide, by decide⟩ rfl hl.1 (Nat.le_of_ble_eq_true rfl) d_KG_run_24 ⟨by decide, by decide⟩) (fun H locs hd => ?_)
  refine lv_if_ne (tgt := 113) hx hb d_KG_run_27 (by decide) (fun c => absurd c (by decide)) (fun _ => ?_)
  refine lv_aload_n hx hb d_KG_run_30 rfl (lv_at hl 0 rfl) ?_
  refine zgetN hC hd (e_key hk) rfl i_Key 15 (by decide) z_135 (Or.inl rfl) (v := .int (xi Z 8 k)) rfl d_KG_run_31 ?_
  refine lv_if_lt (tgt := 40) hx hb d_KG_run_34 (by decide) (fun c34 => absurd c34 h2) (fun c34 => ?_)
  refine lv_bipush (v := (-2)) hx hb d_KG_run_37 (by decide) ?_
  exact zfi hC hd hr hlk d_KG_run_39 rfl rfl
set_option maxHeartbeats 4000000 in
theorem c_KG_run_wait (l : Launch) (G : Gt) (ad : Nat → Nat → Nat) (ow : Nat → Nat × Nat) (Z : Zt) (hX : XS Z) (k : Nat) (hk : k < xn Z 0 1) (h0 : x_isKey Z (nI k) = 1) (h1 : x_isSure Z k = 0) (h2 : xi Z 8 k < 0) (hps : xn Z 9 4 < 40) (hk6 : xn Z 1 k < 6) (N : Nat) (Z9 : Zt) (g9 : Int32) (hrun : x_runs N (x_put Z 4 k) 1 Z9 g9) (hX9 : XS Z9) (hkn9 : k < xn Z9 0 1) (hg9 : g9 = 3) (hp9 : PileOk Z9 4) : Met l y_KG_run w_KG_run ({ frames := 6, cells := 0, slots := 0, locals := 136 }) (zPc G ad ow Z [.ref (ad 0 0), .int (nI k)]) (Qd G ad ow (x_clr 4 Z9 (xn Z9 9 4)) (some (.int (-2)))) 0 0 (zA G) := by
  refine zopen (cc := b_KG_run) (maxL := 5) (ret := (some FieldType.int)) (by decide) rfl (Nat.le_of_ble_eq_true rfl) ?_
  intro p e s m below meth c ls hC hr hlk hnm hd hl
  have hC : Cx G p c m s _ "KeyGraph" b_KG_run 5 := hC
  have hl : lv_has ls 5 [(0, .ref (ad 0 0)), (1, .int (nI k))] := hl
  have hx := hC.1
  have hb := hC.2.1
  have h40 := hX.k40
  refine lv_aload_n hx hb d_KG_run_0 rfl (lv_at hl 0 rfl) ?_
  refine lv_iload_n hx hb d_KG_run_1 rfl (lv_at hl 1 rfl) ?_
  refine zb_i (r := 1) hd (zrunV (n := 1) (rest := []) hC hd (e_kg hX.kg) rfl (c_KG_isKey l G ad ow Z hX (nI k) 1 h0) q_348 q_350 qp_4 q_1 q_351 rfl rfl rfl (by decide +kernel) ⟨by decide, by decide⟩ rfl hl.1 (Nat.le_of_ble_eq_true rfl) d_KG_run_2 ⟨by decide, by decide⟩) (fun H locs hd => ?_)
  refine lv_if_ne (tgt := 10) hx hb d_KG_run_5 (by decide) (fun _ => ?_) (fun c => absurd c (by decide))
  refine lv_aload_n hx hb d_KG_run_10 rfl (lv_at hl 0 rfl) ?_
  refine zget hC hd (e_kg hX.kg) rfl i_KG 0 (by decide) q_80 (Or.inl rfl) (v := .ref (ad 3 0)) rfl d_KG_run_11 ?_
  refine lv_iload_n hx hb d_KG_run_14 rfl (lv_at hl 1 rfl) ?_
  refine zb_a (r := (ad 1 k)) hd (zrunV (n := 1) (rest := []) hC hd (e_list hX.l0) rfl (c_get l G ad ow Z hX 0 k k hX.l0 (show k < xn Z 2 0 by rw [hX.kl]; exact hk) (hX.ke hk)) q_352 q_353 q_354 q_4 q_355 rfl rfl rfl (by decide +kernel) ⟨by decide, by decide⟩ rfl hl.1 (Nat.le_of_ble_eq_true rfl) d_KG_run_15 ⟨by decide, by decide⟩) (fun H locs hd => ?_)
  refine zcast hC hd (e_key hk) q_105 d_KG_run_18 ?_
  refine lv_astore_n (lv' := [(2, .ref (ad 1 k)), (0, .ref (ad 0 0)), (1, .int (nI k))]) hx hb d_KG_run_21 rfl hl (by decide) rfl (fun ls hl => ?_)
  refine lv_aload_n hx hb d_KG_run_22 rfl (lv_at hl 1 rfl) ?_
  refine lv_aload_n hx hb d_KG_run_23 rfl (lv_at hl 0 rfl) ?_
  refine zb_i (r := 0) hd (zrunV (n := 1) (rest := []) hC hd (e_kg hX.kg) rfl (c_KG_isSure l G ad ow Z hX k 0 hk h1) q_421 q_423 qp_9 q_1 q_424 rfl rfl rfl (by decide +kernel) ⟨by decide, by decide⟩ rfl hl.1 (Nat.le_of_ble_eq_true rfl) d_KG_run_24 ⟨by decide, by decide⟩) (fun H locs hd => ?_)
  refine lv_if_ne (tgt := 113) hx hb d_KG_run_27 (by decide) (fun c => absurd c (by decide)) (fun _ => ?_)
  refine lv_aload_n hx hb d_KG_run_30 rfl (lv_at hl 0 rfl) ?_
  refine zgetN hC hd (e_key hk) rfl i_Key 15 (by decide) z_135 (Or.inl rfl) (v := .int (xi Z 8 k)) rfl d_KG_run_31 ?_
  refine lv_if_lt (tgt := 40) hx hb d_KG_run_34 (by decide) (fun c34 => ?_) (fun c34 => absurd h2 c34)
  refine lv_aload_n hx hb d_KG_run_40 rfl (lv_at hl 1 rfl) ?_
  refine lv_iconst (v := 4) hx hb d_KG_run_41 (by decide) ?_
  refine lv_aload_n hx hb d_KG_run_42 rfl (lv_at hl 0 rfl) ?_
  refine zb_v hd (zrunV (n := 2) (rest := []) hC hd (e_kg hX.kg) rfl (c_KG_put l G ad ow Z hX 4 k (by omega) hk hps hk6) q_425 q_427 qp_10 q_1 q_428 rfl rfl rfl (by decide +kernel) ⟨by decide, by decide⟩ rfl hl.1 (Nat.le_of_ble_eq_true rfl) d_KG_run_43 ⟨by decide, by decide⟩) (fun H locs hd => ?_)
  refine lv_iconst (v := 1) hx hb d_KG_run_46 (by decide) ?_
  refine lv_istore_n (lv' := [(3, .int 1), (2, .ref (ad 1 k)), (0, .ref (ad 0 0)), (1, .int (nI k))]) hx hb d_KG_run_47 rfl hl (by decide) rfl (fun ls hl => ?_)
  refine lp_KG_run k Z9 g9 hC N (x_put Z 4 k) 1 ls H locs (x_put_XS hX 4 k) hrun hd (lv_sub hl [0, 1, 2, 3] rfl) (fun ls H locs hd hl => ?_)
  refine lv_iload_n hx hb d_KG_run_66 rfl (lv_at hl 0 rfl) ?_
  refine lv_iconst (v := 3) hx hb d_KG_run_67 (by decide) ?_
  refine lv_icmp_ne (tgt := 113) hx hb d_KG_run_68 (by decide) (fun c68 => absurd hg9 c68) (fun c68 => ?_)
  refine lv_aload_n hx hb d_KG_run_71 rfl (lv_at hl 2 rfl) ?_
  refine zget hC hd (e_kg hX9.kg) rfl i_KG 1 (by decide) q_81 (Or.inl rfl) (v := .ref (ad 8 0)) rfl d_KG_run_72 ?_
  refine lv_iconst (v := 4) hx hb d_KG_run_75 (by decide) ?_
  refine zaaP (k := 4) hC hd (e_piles hX9.ps) (by omega) (by decide) rfl d_KG_run_76 ?_
  refine lv_astore (lv' := [(4, .ref (ad 6 4)), (3, .int g9), (2, .ref (ad 1 k)), (0, .ref (ad 0 0)), (1, .int (nI k))]) hx hb d_KG_run_77 hl (by decide) rfl (fun ls hl => ?_)
  refine lc_KG_run 4 (by decide) k g9 hC (xn Z9 9 4) Z9 ls H locs rfl hX9 hp9 hd (lv_sub hl [0, 1, 2, 3, 4] rfl) (fun ls H locs hd hl => ?_)
  refine lv_bipush (v := (-2)) hx hb d_KG_run_110 (by decide) ?_
  exact zfi hC hd hr hlk d_KG_run_112 rfl rfl
set_option maxHeartbeats 4000000 in
theorem c_KG_run_go (l : Launch) (G : Gt) (ad : Nat → Nat → Nat) (ow : Nat → Nat × Nat) (Z : Zt) (hX : XS Z) (k : Nat) (hk : k < xn Z 0 1) (h0 : x_isKey Z (nI k) = 1) (h1 : x_isSure Z k = 0) (h2 : xi Z 8 k < 0) (hps : xn Z 9 4 < 40) (hk6 : xn Z 1 k < 6) (N : Nat) (Z9 : Zt) (g9 : Int32) (hrun : x_runs N (x_put Z 4 k) 1 Z9 g9) (hX9 : XS Z9) (hkn9 : k < xn Z9 0 1) (hg9 : ¬ g9 = 3) : Met l y_KG_run w_KG_run ({ frames := 6, cells := 0, slots := 0, locals := 136 }) (zPc G ad ow Z [.ref (ad 0 0), .int (nI k)]) (Qd G ad ow Z9 (some (.int (xi Z9 1 k)))) 0 0 (zA G) := by
  refine zopen (cc := b_KG_run) (maxL := 5) (ret := (some FieldType.int)) (by decide) rfl (Nat.le_of_ble_eq_true rfl) ?_
  intro p e s m below meth c ls hC hr hlk hnm hd hl
  have hC : Cx G p c m s _ "KeyGraph" b_KG_run 5 := hC
  have hl : lv_has ls 5 [(0, .ref (ad 0 0)), (1, .int (nI k))] := hl
  have hx := hC.1
  have hb := hC.2.1
  have h40 := hX.k40
  refine lv_aload_n hx hb d_KG_run_0 rfl (lv_at hl 0 rfl) ?_
  refine lv_iload_n hx hb d_KG_run_1 rfl (lv_at hl 1 rfl) ?_
  refine zb_i (r := 1) hd (zrunV (n := 1) (rest := []) hC hd (e_kg hX.kg) rfl (c_KG_isKey l G ad ow Z hX (nI k) 1 h0) q_348 q_350 qp_4 q_1 q_351 rfl rfl rfl (by decide +kernel) ⟨by decide, by decide⟩ rfl hl.1 (Nat.le_of_ble_eq_true rfl) d_KG_run_2 ⟨by decide, by decide⟩) (fun H locs hd => ?_)
  refine lv_if_ne (tgt := 10) hx hb d_KG_run_5 (by decide) (fun _ => ?_) (fun c => absurd c (by decide))
  refine lv_aload_n hx hb d_KG_run_10 rfl (lv_at hl 0 rfl) ?_
  refine zget hC hd (e_kg hX.kg) rfl i_KG 0 (by decide) q_80 (Or.inl rfl) (v := .ref (ad 3 0)) rfl d_KG_run_11 ?_
  refine lv_iload_n hx hb d_KG_run_14 rfl (lv_at hl 1 rfl) ?_
  refine zb_a (r := (ad 1 k)) hd (zrunV (n := 1) (rest := []) hC hd (e_list hX.l0) rfl (c_get l G ad ow Z hX 0 k k hX.l0 (show k < xn Z 2 0 by rw [hX.kl]; exact hk) (hX.ke hk)) q_352 q_353 q_354 q_4 q_355 rfl rfl rfl (by decide +kernel) ⟨by decide, by decide⟩ rfl hl.1 (Nat.le_of_ble_eq_true rfl) d_KG_run_15 ⟨by decide, by decide⟩) (fun H locs hd => ?_)
  refine zcast hC hd (e_key hk) q_105 d_KG_run_18 ?_
  refine lv_astore_n (lv' := [(2, .ref (ad 1 k)), (0, .ref (ad 0 0)), (1, .int (nI k))]) hx hb d_KG_run_21 rfl hl (by decide) rfl (fun ls hl => ?_)
  refine lv_aload_n hx hb d_KG_run_22 rfl (lv_at hl 1 rfl) ?_
  refine lv_aload_n hx hb d_KG_run_23 rfl (lv_at hl 0 rfl) ?_
  refine zb_i (r := 0) hd (zrunV (n := 1) (rest := []) hC hd (e_kg hX.kg) rfl (c_KG_isSure l G ad ow Z hX k 0 hk h1) q_421 q_423 qp_9 q_1 q_424 rfl rfl rfl (by decide +kernel) ⟨by decide, by decide⟩ rfl hl.1 (Nat.le_of_ble_eq_true rfl) d_KG_run_24 ⟨by decide, by decide⟩) (fun H locs hd => ?_)
  refine lv_if_ne (tgt := 113) hx hb d_KG_run_27 (by decide) (fun c => absurd c (by decide)) (fun _ => ?_)
  refine lv_aload_n hx hb d_KG_run_30 rfl (lv_at hl 0 rfl) ?_
  refine zgetN hC hd (e_key hk) rfl i_Key 15 (by decide) z_135 (Or.inl rfl) (v := .int (xi Z 8 k)) rfl d_KG_run_31 ?_
  refine lv_if_lt (tgt := 40) hx hb d_KG_run_34 (by decide) (fun c34 => ?_) (fun c34 => absurd h2 c34)
  refine lv_aload_n hx hb d_KG_run_40 rfl (lv_at hl 1 rfl) ?_
  refine lv_iconst (v := 4) hx hb d_KG_run_41 (by decide) ?_
  refine lv_aload_n hx hb d_KG_run_42 rfl (lv_at hl 0 rfl) ?_
  refine zb_v hd (zrunV (n := 2) (rest := []) hC hd (e_kg hX.kg) rfl (c_KG_put l G ad ow Z hX 4 k (by omega) hk hps hk6) q_425 q_427 qp_10 q_1 q_428 rfl rfl rfl (by decide +kernel) ⟨by decide, by decide⟩ rfl hl.1 (Nat.le_of_ble_eq_true rfl) d_KG_run_43 ⟨by decide, by decide⟩) (fun H locs hd => ?_)
  refine lv_iconst (v := 1) hx hb d_KG_run_46 (by decide) ?_
  refine lv_istore_n (lv' := [(3, .int 1), (2, .ref (ad 1 k)), (0, .ref (ad 0 0)), (1, .int (nI k))]) hx hb d_KG_run_47 rfl hl (by decide) rfl (fun ls hl => ?_)
  refine lp_KG_run k Z9 g9 hC N (x_put Z 4 k) 1 ls H locs (x_put_XS hX 4 k) hrun hd (lv_sub hl [0, 1, 2, 3] rfl) (fun ls H locs hd hl => ?_)
  refine lv_iload_n hx hb d_KG_run_66 rfl (lv_at hl 0 rfl) ?_
  refine lv_iconst (v := 3) hx hb d_KG_run_67 (by decide) ?_
  refine lv_icmp_ne (tgt := 113) hx hb d_KG_run_68 (by decide) (fun c68 => ?_) (fun c68 => absurd c68 hg9)
  refine lv_aload_n hx hb d_KG_run_113 rfl (lv_at hl 1 rfl) ?_
  refine zgetN hC hd (e_key hkn9) rfl i_Key 3 (by decide) z_119 (Or.inl rfl) (v := .int (xi Z9 1 k)) rfl d_KG_run_114 ?_
  exact zfi hC hd hr hlk d_KG_run_117 rfl rfl
set_option maxHeartbeats 4000000 in
theorem c_KG_ring (l : Launch) (G : Gt) (ad : Nat → Nat → Nat) (ow : Nat → Nat × Nat) (Z : Zt) (hX : XS Z) (i : Int32) : Met l y_KG_ring w_KG_ring ({ frames := 3, cells := 0, slots := 0, locals := 64 }) (zPc G ad ow Z [.ref (ad 0 0), .int i]) (Qd G ad ow Z (some (.int (x_ring Z i)))) 0 0 (zA G) := by
  refine zopen (cc := b_KG_ring) (maxL := 2) (ret := (some FieldType.int)) (by decide) rfl (Nat.le_of_ble_eq_true rfl) ?_
  intro p e s m below meth c ls hC hr hlk hnm hd hl
  have hC : Cx G p c m s _ "KeyGraph" b_KG_ring 2 := hC
  have hl : lv_has ls 2 [(0, .ref (ad 0 0)), (1, .int i)] := hl
  have hx := hC.1
  have hb := hC.2.1
  have hr40 := hX.2.2.2.2.1.1
  refine lv_iload_n hx hb d_KG_ring_0 rfl (lv_at hl 1 rfl) ?_
  refine lv_if_lt (tgt := 15) hx hb d_KG_ring_1 (by decide) (fun c1 => ?_) (fun c1 => ?_)
  · refine lv_iconst (v := (-1)) hx hb d_KG_ring_15 (by decide) ?_
    refine lv_goto (tgt := 33) hx hb d_KG_ring_16 (by decide) ?_
    exact zfi hC hd hr hlk d_KG_ring_33 (by unfold x_ring; (repeat (first | (rw [if_pos]; rotate_left; first | assumption | decide) | (rw [if_neg]; rotate_left; first | assumption | decide))) <;> (try rfl)) rfl
  · obtain ⟨i1, hi1, rfl⟩ := nI_of c1
    have hci : (nI i1).toNatClampNeg = i1 := nI_clamp hi1
    refine lv_iload_n hx hb d_KG_ring_4 rfl (lv_at hl 1 rfl) ?_
    refine lv_aload_n hx hb d_KG_ring_5 rfl (lv_at hl 0 rfl) ?_
    refine zget hC hd (e_kg hX.kg) rfl i_KG 2 (by decide) q_82 (Or.inl rfl) (v := .ref (ad 3 1)) rfl d_KG_ring_6 ?_
    refine zb_i (r := (nI (xn Z 2 1))) hd (zrunV (n := 0) (rest := [.int (nI i1)]) hC hd (e_list hX.l1) rfl (c_AL_size l G ad ow Z 1 hX.l1) q_101 q_102 q_103 q_4 q_104 rfl rfl rfl (by decide +kernel) ⟨by decide, by decide⟩ rfl hl.1 (Nat.le_of_ble_eq_true rfl) d_KG_ring_9 ⟨by decide, by decide⟩) (fun H locs hd => ?_)
    refine zc_lt (x := i1) (y := xn Z 2 1) (tgt := 19) (by omega) (by omega) hx hb d_KG_ring_12 (by decide) (fun c12 => ?_) (fun c12 => ?_)
    · have c12' := Nat.not_le.mpr c12
      have c12b :  nI i1 < nI (xn Z 2 1) := nI_lt c12 (by omega)
      have he := hX.2.2.2.2.1.2 i1 c12
      obtain ⟨q, hq⟩ : ∃ q, xc Z 4 1 i1 = q + 1 := ⟨xc Z 4 1 i1 - 1, by omega⟩
      have hq1 : xc Z 4 1 i1 - 1 = q := by omega
      have hqn : q < xn Z 0 1 := by omega
      refine lv_aload_n hx hb d_KG_ring_19 rfl (lv_at hl 0 rfl) ?_
      refine zget hC hd (e_kg hX.kg) rfl i_KG 2 (by decide) q_82 (Or.inl rfl) (v := .ref (ad 3 1)) rfl d_KG_ring_20 ?_
      refine lv_iload_n hx hb d_KG_ring_23 rfl (lv_at hl 1 rfl) ?_
      refine zb_a (r := (ad 1 q)) hd (zrunV (n := 1) (rest := []) hC hd (e_list hX.l1) rfl (c_get l G ad ow Z hX 1 i1 q hX.l1 c12 hq) q_352 q_353 q_354 q_4 q_355 rfl rfl rfl (by decide +kernel) ⟨by decide, by decide⟩ rfl hl.1 (Nat.le_of_ble_eq_true rfl) d_KG_ring_24 ⟨by decide, by decide⟩) (fun H locs hd => ?_)
      refine zcast hC hd (e_key hqn) q_105 d_KG_ring_27 ?_
      refine zgetN hC hd (e_key hqn) rfl i_Key 0 (by decide) z_114 (Or.inl rfl) (v := .int (nI q)) rfl d_KG_ring_30 ?_
      exact zfi hC hd hr hlk d_KG_ring_33 (by unfold x_ring; rw [hci, hq1]; (repeat (first | (rw [if_pos]; rotate_left; first | assumption | decide) | (rw [if_neg]; rotate_left; first | assumption | decide))) <;> (try rfl)) rfl
    · have c12' := Nat.not_lt.mpr c12
      have c12b : ¬ nI i1 < nI (xn Z 2 1) := fun q => absurd ((nI_ltI (by omega) (by omega)).mp q) (by omega)
      refine lv_iconst (v := (-1)) hx hb d_KG_ring_15 (by decide) ?_
      refine lv_goto (tgt := 33) hx hb d_KG_ring_16 (by decide) ?_
      exact zfi hC hd hr hlk d_KG_ring_33 (by unfold x_ring; rw [hci]; (repeat (first | (rw [if_pos]; rotate_left; first | assumption | decide) | (rw [if_neg]; rotate_left; first | assumption | decide))) <;> (try rfl)) rfl
