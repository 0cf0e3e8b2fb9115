set_option maxHeartbeats 4000000 in
theorem c_KG_value_iae (l : Launch) (G : Gt) (ad : Nat → Nat → Nat) (ow : Nat → Nat × Nat) (Z : Zt) (hst : ∀ e, l.admits e → e.platform.stackTraces = false) (hX : XS Z) (k : Int32) (h0 : x_isKey Z k = 0) : MetT l y_KG_value w_KG_value ({ frames := 6, cells := 1, slots := 6, locals := 85 }) (zPc G ad ow Z [.ref (ad 0 0), .int k]) "java/lang/IllegalArgumentException" := by
  refine zopenT (cc := b_KG_value) (maxL := 2) (ret := (some FieldType.long)) (by decide) rfl (Nat.le_of_ble_eq_true rfl) ?_
  intro p e s m below meth c ls hC hr hlk hnm hno hd hl
  have hC : Cx G p c m s _ "KeyGraph" b_KG_value 2 := hC
  have hl : lv_has ls 2 [(0, .ref (ad 0 0)), (1, .int k)] := hl
  have hx := hC.1
  have hb := hC.2.1
  refine lv_aload_n hx hb d_KG_value_0 rfl (lv_at hl 0 rfl) ?_
  refine lv_iload_n hx hb d_KG_value_1 rfl (lv_at hl 1 rfl) ?_
  refine zbF_i (r := 0) hd (zrunVF (n := 1) (rest := []) hC hd (e_kg hX.kg) rfl (cF_KG_isKey l G ad ow Z hX k 0 h0) q_348 q_350 qp_4 q_1 q_351 rfl rfl rfl (by decide +kernel) ⟨by decide, by decide⟩ rfl hl.1 (Nat.le_of_ble_eq_true rfl) d_KG_value_2 ⟨by decide, by decide⟩) (fun H hd => ?_)
  refine lv_if_ne (tgt := 16) hx hb d_KG_value_5 (by decide) (fun c => absurd c (by decide)) (fun _ => ?_)
  exact zthrow hC hd hst hno hlk hl.1 q_569 q_570 q_23 (own_IAE hC) (by decide +kernel) (by decide +kernel) d_KG_value_8 d_KG_value_11 d_KG_value_12 d_KG_value_15 (Nat.le_of_ble_eq_true rfl) (Nat.le_of_ble_eq_true rfl) (Nat.le_of_ble_eq_true rfl) (Nat.le_of_ble_eq_true rfl)
set_option maxHeartbeats 4000000 in
theorem c_KG_value_ise (l : Launch) (G : Gt) (ad : Nat → Nat → Nat) (ow : Nat → Nat × Nat) (Z : Zt) (hst : ∀ e, l.admits e → e.platform.stackTraces = false) (hX : XS Z) (k : Int32) (h0 : x_isKey Z k = 1) (h1 : ¬ x_state Z k = 1) : MetT l y_KG_value w_KG_value ({ frames := 6, cells := 1, slots := 6, locals := 85 }) (zPc G ad ow Z [.ref (ad 0 0), .int k]) "java/lang/IllegalStateException" := by
  refine zopenT (cc := b_KG_value) (maxL := 2) (ret := (some FieldType.long)) (by decide) rfl (Nat.le_of_ble_eq_true rfl) ?_
  intro p e s m below meth c ls hC hr hlk hnm hno hd hl
  have hC : Cx G p c m s _ "KeyGraph" b_KG_value 2 := hC
  have hl : lv_has ls 2 [(0, .ref (ad 0 0)), (1, .int k)] := hl
  have hx := hC.1
  have hb := hC.2.1
  refine lv_aload_n hx hb d_KG_value_0 rfl (lv_at hl 0 rfl) ?_
  refine lv_iload_n hx hb d_KG_value_1 rfl (lv_at hl 1 rfl) ?_
  refine zbF_i (r := 1) hd (zrunVF (n := 1) (rest := []) hC hd (e_kg hX.kg) rfl (cF_KG_isKey l G ad ow Z hX k 1 h0) q_348 q_350 qp_4 q_1 q_351 rfl rfl rfl (by decide +kernel) ⟨by decide, by decide⟩ rfl hl.1 (Nat.le_of_ble_eq_true rfl) d_KG_value_2 ⟨by decide, by decide⟩) (fun H hd => ?_)
  refine lv_if_ne (tgt := 16) hx hb d_KG_value_5 (by decide) (fun _ => ?_) (fun c => absurd c (by decide))
  refine lv_aload_n hx hb d_KG_value_16 rfl (lv_at hl 0 rfl) ?_
  refine lv_iload_n hx hb d_KG_value_17 rfl (lv_at hl 1 rfl) ?_
  refine zbF_i (r := (x_state Z k)) hd (zrunVF (n := 1) (rest := []) hC hd (e_kg hX.kg) rfl (cF_KG_state l G ad ow Z hX k) q_631 q_537 q_538 q_1 q_539 rfl rfl rfl (by decide +kernel) ⟨by decide, by decide⟩ rfl hl.1 (Nat.le_of_ble_eq_true rfl) d_KG_value_18 ⟨by decide, by decide⟩) (fun H hd => ?_)
  refine lv_iconst (v := 1) hx hb d_KG_value_21 (by decide) ?_
  refine lv_icmp_eq (tgt := 33) hx hb d_KG_value_22 (by decide) (fun c22 => absurd c22 h1) (fun c22 => ?_)
  exact zthrow hC hd hst hno hlk hl.1 q_632 q_633 q_24 (own_ISE hC) (by decide +kernel) (by decide +kernel) d_KG_value_25 d_KG_value_28 d_KG_value_29 d_KG_value_32 (Nat.le_of_ble_eq_true rfl) (Nat.le_of_ble_eq_true rfl) (Nat.le_of_ble_eq_true rfl) (Nat.le_of_ble_eq_true rfl)
set_option maxHeartbeats 4000000 in
theorem c_KG_value_ok (l : Launch) (G : Gt) (ad : Nat → Nat → Nat) (ow : Nat → Nat × Nat) (Z : Zt) (hX : XS Z) (k : Nat) (hk : k < xn Z 0 1) (h0 : x_isKey Z (nI k) = 1) (h1 : x_state Z (nI k) = 1) : Met l y_KG_value w_KG_value ({ frames := 6, cells := 0, slots := 0, locals := 85 }) (zPc G ad ow Z [.ref (ad 0 0), .int (nI k)]) (Qd G ad ow Z (some (.long (xl Z 1 k)))) 0 0 (zA G) := by
  refine zopen (cc := b_KG_value) (maxL := 2) (ret := (some FieldType.long)) (by decide) rfl (Nat.le_of_ble_eq_true rfl) ?_
  intro p e s m below meth c ls hC hr hlk hnm hd hl
  have hC : Cx G p c m s _ "KeyGraph" b_KG_value 2 := hC
  have hl : lv_has ls 2 [(0, .ref (ad 0 0)), (1, .int (nI k))] := hl
  have hx := hC.1
  have hb := hC.2.1
  have h40 := hX.k40
  refine lv_aload_n hx hb d_KG_value_0 rfl (lv_at hl 0 rfl) ?_
  refine lv_iload_n hx hb d_KG_value_1 rfl (lv_at hl 1 rfl) ?_
  refine zb_i (r := 1) hd (zrunV (n := 1) (rest := []) hC hd (e_kg hX.kg) rfl (c_KG_isKey l G ad ow Z hX (nI k) 1 h0) q_348 q_350 qp_4 q_1 q_351 rfl rfl rfl (by decide +kernel) ⟨by decide, by decide⟩ rfl hl.1 (Nat.le_of_ble_eq_true rfl) d_KG_value_2 ⟨by decide, by decide⟩) (fun H locs hd => ?_)
  refine lv_if_ne (tgt := 16) hx hb d_KG_value_5 (by decide) (fun _ => ?_) (fun c => absurd c (by decide))
  refine lv_aload_n hx hb d_KG_value_16 rfl (lv_at hl 0 rfl) ?_
  refine lv_iload_n hx hb d_KG_value_17 rfl (lv_at hl 1 rfl) ?_
  refine zb_i (r := (x_state Z (nI k))) hd (zrunV (n := 1) (rest := []) hC hd (e_kg hX.kg) rfl (c_KG_state l G ad ow Z hX (nI k)) q_631 q_537 q_538 q_1 q_539 rfl rfl rfl (by decide +kernel) ⟨by decide, by decide⟩ rfl hl.1 (Nat.le_of_ble_eq_true rfl) d_KG_value_18 ⟨by decide, by decide⟩) (fun H locs hd => ?_)
  refine lv_iconst (v := 1) hx hb d_KG_value_21 (by decide) ?_
  refine lv_icmp_eq (tgt := 33) hx hb d_KG_value_22 (by decide) (fun c22 => ?_) (fun c22 => absurd h1 c22)
  refine lv_aload_n hx hb d_KG_value_33 rfl (lv_at hl 0 rfl) ?_
  refine zget hC hd (e_kg hX.kg) rfl i_KG 0 (by decide) q_80 (Or.inl rfl) (v := .ref (ad 3 0)) rfl d_KG_value_34 ?_
  refine lv_iload_n hx hb d_KG_value_37 rfl (lv_at hl 1 rfl) ?_
  refine zb_a (r := (ad 1 k)) hd (zrunV (n := 1) (rest := []) hC hd (e_list hX.l0) rfl (c_get l G ad ow Z hX 0 k k hX.l0 (show k < xn Z 2 0 by rw [hX.kl]; exact hk) (hX.ke hk)) q_352 q_353 q_354 q_4 q_355 rfl rfl rfl (by decide +kernel) ⟨by decide, by decide⟩ rfl hl.1 (Nat.le_of_ble_eq_true rfl) d_KG_value_38 ⟨by decide, by decide⟩) (fun H locs hd => ?_)
  refine zcast hC hd (e_key hk) q_105 d_KG_value_41 ?_
  refine zgetN hC hd (e_key hk) rfl i_Key 4 (by decide) z_120 (Or.inl rfl) (v := .long (xl Z 1 k)) rfl d_KG_value_44 ?_
  exact zfl hC hd hr hlk d_KG_value_47 rfl rfl
