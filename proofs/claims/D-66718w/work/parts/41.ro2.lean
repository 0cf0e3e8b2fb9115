set_option maxHeartbeats 4000000 in
theorem cF_Key_isLeaf_y (l : Launch) (G : Gt) (ad : Nat → Nat → Nat) (ow : Nat → Nat × Nat) (Z : Zt) (k : Nat) (hk : k < xn Z 0 1) (hlf : xn Z 1 k = 6) : Met l y_Key_isLeaf w_Key_isLeaf ({ frames := 0, cells := 0, slots := 0, locals := 0 }) (zPc G ad ow Z [.ref (ad 1 k)]) (Qd G ad ow Z (some (.int 1))) 0 0 fF := by
  refine zopenF (cc := b_Key_isLeaf) (maxL := 1) (ret := (some FieldType.boolean)) (by decide) rfl (Nat.le_of_ble_eq_true rfl) ?_
  intro p e s m below meth c ls hC hr hlk hnm hd hl
  have hC : Cx G p c m s _ "KeyGraph$Key" b_Key_isLeaf 1 := hC
  have hl : lv_has ls 1 [(0, .ref (ad 1 k))] := hl
  have hx := hC.1
  have hb := hC.2.1
  refine lv_aload_n hx hb d_Key_isLeaf_0 rfl (lv_at hl 0 rfl) ?_
  refine zget hC hd (e_key hk) rfl i_Key 1 (by decide) q_115 (Or.inl rfl) (v := .null) (congrArg (fun q => some (va_rf q)) (if_pos hlf)) d_Key_isLeaf_1 ?_
  refine lv_ifnonnullN hx hb d_Key_isLeaf_4 ?_
  refine lv_iconst (v := 1) hx hb d_Key_isLeaf_7 (by decide) ?_
  refine lv_goto (tgt := 12) hx hb d_Key_isLeaf_8 (by decide) ?_
  exact zfzF hC hd hr hlk d_Key_isLeaf_12 (by decide) rfl rfl
set_option maxHeartbeats 4000000 in
theorem cF_Key_isLeaf_n (l : Launch) (G : Gt) (ad : Nat → Nat → Nat) (ow : Nat → Nat × Nat) (Z : Zt) (k : Nat) (hk : k < xn Z 0 1) (hlf : ¬ xn Z 1 k = 6) : Met l y_Key_isLeaf w_Key_isLeaf ({ frames := 0, cells := 0, slots := 0, locals := 0 }) (zPc G ad ow Z [.ref (ad 1 k)]) (Qd G ad ow Z (some (.int 0))) 0 0 fF := by
  refine zopenF (cc := b_Key_isLeaf) (maxL := 1) (ret := (some FieldType.boolean)) (by decide) rfl (Nat.le_of_ble_eq_true rfl) ?_
  intro p e s m below meth c ls hC hr hlk hnm hd hl
  have hC : Cx G p c m s _ "KeyGraph$Key" b_Key_isLeaf 1 := hC
  have hl : lv_has ls 1 [(0, .ref (ad 1 k))] := hl
  have hx := hC.1
  have hb := hC.2.1
  refine lv_aload_n hx hb d_Key_isLeaf_0 rfl (lv_at hl 0 rfl) ?_
  refine zget hC hd (e_key hk) rfl i_Key 1 (by decide) q_115 (Or.inl rfl) (v := .ref (ad 2 k)) (congrArg (fun q => some (va_rf q)) (if_neg hlf)) d_Key_isLeaf_1 ?_
  refine lv_ifnonnull (tgt := 11) hx hb d_Key_isLeaf_4 (by decide) ?_
  refine lv_iconst (v := 0) hx hb d_Key_isLeaf_11 (by decide) ?_
  exact zfzF hC hd hr hlk d_Key_isLeaf_12 (by decide) rfl rfl
set_option maxHeartbeats 4000000 in
theorem cF_AL_size (l : Launch) (G : Gt) (ad : Nat → Nat → Nat) (ow : Nat → Nat × Nat) (Z : Zt) (i : Nat) (hi : i < xn Z 0 3) : Met l y_AL_size w_AL_size ({ frames := 0, cells := 0, slots := 0, locals := 0 }) (zPc G ad ow Z [.ref (ad 3 i)]) (Qd G ad ow Z (some (.int (nI (xn Z 2 i))))) 0 0 fF := by
  refine zopenF (cc := b_AL_size) (maxL := 1) (ret := (some FieldType.int)) (by decide) rfl (Nat.le_of_ble_eq_true rfl) ?_
  intro p e s m below meth c ls hC hr hlk hnm hd hl
  have hC : Cx G p c m s _ "java/util/ArrayList" b_AL_size 1 := hC
  have hl : lv_has ls 1 [(0, .ref (ad 3 i))] := hl
  have hx := hC.1
  have hb := hC.2.1
  refine lv_aload_n hx hb d_AL_size_0 rfl (lv_at hl 0 rfl) ?_
  refine zget hC hd (e_list hi) rfl i_AL 2 (by decide) q_48 (Or.inl rfl) (v := .int (nI (xn Z 2 i))) rfl d_AL_size_1 ?_
  exact zfiF hC hd hr hlk d_AL_size_4 rfl rfl
set_option maxHeartbeats 4000000 in
theorem cF_AL_elementData (l : Launch) (G : Gt) (ad : Nat → Nat → Nat) (ow : Nat → Nat × Nat) (Z : Zt) (i j k : Nat) (hi : i < xn Z 0 3) (h4 : i < xn Z 0 4) (hc : xn Z 3 i ≠ 0) (hcn : xn Z 3 i ≤ 2147483647) (hj : j < xn Z 3 i) (hk : xc Z 4 i j = k + 1) : Met l y_AL_elementData w_AL_elementData ({ frames := 0, cells := 0, slots := 0, locals := 0 }) (zPc G ad ow Z [.ref (ad 3 i), .int (nI j)]) (Qd G ad ow Z (some (.ref (ad 1 k)))) 0 0 fF := by
  refine zopenF (cc := b_AL_elementData) (maxL := 2) (ret := (some (FieldType.object "java/lang/Object"))) (by decide) rfl (Nat.le_of_ble_eq_true rfl) ?_
  intro p e s m below meth c ls hC hr hlk hnm hd hl
  have hC : Cx G p c m s _ "java/util/ArrayList" b_AL_elementData 2 := hC
  have hl : lv_has ls 2 [(0, .ref (ad 3 i)), (1, .int (nI j))] := hl
  have hx := hC.1
  have hb := hC.2.1
  refine lv_aload_n hx hb d_AL_elementData_0 rfl (lv_at hl 0 rfl) ?_
  refine zget hC hd (e_list hi) rfl i_AL 1 (by decide) q_47 (Or.inl rfl) (v := .ref (ad 4 i)) (congrArg (fun q => some (Value.ref q)) (if_neg hc)) d_AL_elementData_1 ?_
  refine lv_iload_n hx hb d_AL_elementData_4 rfl (lv_at hl 1 rfl) ?_
  refine zaaO (k := j) (y := ad 1 k) hC hd (e_elem h4 hc) (by omega) hcn (by show (if xc Z 4 i j = 0 then none else some (ad 1 (xc Z 4 i j - 1))) = _; rw [hk]; rfl) d_AL_elementData_5 ?_
  exact zfaF hC hd hr (Or.inl ⟨_, rfl⟩) hlk d_AL_elementData_6 rfl rfl
set_option maxHeartbeats 4000000 in
theorem cF_Prec_checkIndex (l : Launch) (G : Gt) (ad : Nat → Nat → Nat) (ow : Nat → Nat × Nat) (Z : Zt) (j n : Nat) (hj : j < n) (hn : n ≤ 2147483647) : Met l y_Prec_checkIndex w_Prec_checkIndex ({ frames := 0, cells := 0, slots := 0, locals := 0 }) (zPc G ad ow Z [.int (nI j), .int (nI n), .null]) (Qd G ad ow Z (some (.int (nI j)))) 0 0 fF := by
  refine zopenF (cc := b_Prec_checkIndex) (maxL := 3) (ret := (some FieldType.int)) (by decide) rfl (Nat.le_of_ble_eq_true rfl) ?_
  intro p e s m below meth c ls hC hr hlk hnm hd hl
  have hC : Cx G p c m s _ "jdk/internal/util/Preconditions" b_Prec_checkIndex 3 := hC
  have hl : lv_has ls 3 [(0, .int (nI j)), (1, .int (nI n)), (2, .null)] := hl
  have hx := hC.1
  have hb := hC.2.1
  refine lv_iload_n hx hb d_Prec_checkIndex_0 rfl (lv_at hl 0 rfl) ?_
  refine lv_if_lt (tgt := 9) hx hb d_Prec_checkIndex_1 (by decide) (fun c => absurd c (nI_pos (by omega))) (fun _ => ?_)
  refine lv_iload_n hx hb d_Prec_checkIndex_4 rfl (lv_at hl 0 rfl) ?_
  refine lv_iload_n hx hb d_Prec_checkIndex_5 rfl (lv_at hl 1 rfl) ?_
  refine zc_lt (x := j) (y := n) (tgt := 16) (by omega) (by omega) hx hb d_Prec_checkIndex_6 (by decide) (fun c6 => ?_) (fun c6 => absurd c6 (by omega))
  refine lv_iload_n hx hb d_Prec_checkIndex_16 rfl (lv_at hl 0 rfl) ?_
  exact zfiF hC hd hr hlk d_Prec_checkIndex_17 rfl rfl
set_option maxHeartbeats 4000000 in
theorem cF_Objs_checkIndex (l : Launch) (G : Gt) (ad : Nat → Nat → Nat) (ow : Nat → Nat × Nat) (Z : Zt) (j n : Nat) (hj : j < n) (hn : n ≤ 2147483647) : Met l y_Objs_checkIndex w_Objs_checkIndex ({ frames := 1, cells := 0, slots := 0, locals := 22 }) (zPc G ad ow Z [.int (nI j), .int (nI n)]) (Qd G ad ow Z (some (.int (nI j)))) 0 0 fF := by
  refine zopenF (cc := b_Objs_checkIndex) (maxL := 2) (ret := (some FieldType.int)) (by decide) rfl (Nat.le_of_ble_eq_true rfl) ?_
  intro p e s m below meth c ls hC hr hlk hnm hd hl
  have hC : Cx G p c m s _ "java/util/Objects" b_Objs_checkIndex 2 := hC
  have hl : lv_has ls 2 [(0, .int (nI j)), (1, .int (nI n))] := hl
  have hx := hC.1
  have hb := hC.2.1
  refine lv_iload_n hx hb d_Objs_checkIndex_0 rfl (lv_at hl 0 rfl) ?_
  refine lv_iload_n hx hb d_Objs_checkIndex_1 rfl (lv_at hl 1 rfl) ?_
  refine lv_null hx hb d_Objs_checkIndex_2 ?_
  refine zbF_i (r := (nI j)) hd (zrunSF (n := 3) (rest := []) hC hd (cF_Prec_checkIndex l G ad ow Z j n hj hn) q_359 q_360 q_19 q_361 rfl rfl rfl (by decide +kernel) ⟨by decide, by decide⟩ rfl hl.1 (Nat.le_of_ble_eq_true rfl) d_Objs_checkIndex_3 ⟨by decide, by decide⟩) (fun H hd => ?_)
  exact zfiF hC hd hr hlk d_Objs_checkIndex_6 rfl rfl
set_option maxHeartbeats 4000000 in
theorem cF_AL_get (l : Launch) (G : Gt) (ad : Nat → Nat → Nat) (ow : Nat → Nat × Nat) (Z : Zt) (i j k : Nat) (hi : i < xn Z 0 3) (h4 : i < xn Z 0 4) (hc : xn Z 3 i ≠ 0) (hcn : xn Z 3 i ≤ 2147483647) (hj : j < xn Z 3 i) (hk : xc Z 4 i j = k + 1) (hs : j < xn Z 2 i) (hsc : xn Z 2 i ≤ xn Z 3 i) : Met l y_AL_get w_AL_get ({ frames := 2, cells := 0, slots := 0, locals := 43 }) (zPc G ad ow Z [.ref (ad 3 i), .int (nI j)]) (Qd G ad ow Z (some (.ref (ad 1 k)))) 0 0 fF := by
  refine zopenF (cc := b_AL_get) (maxL := 2) (ret := (some (FieldType.object "java/lang/Object"))) (by decide) rfl (Nat.le_of_ble_eq_true rfl) ?_
  intro p e s m below meth c ls hC hr hlk hnm hd hl
  have hC : Cx G p c m s _ "java/util/ArrayList" b_AL_get 2 := hC
  have hl : lv_has ls 2 [(0, .ref (ad 3 i)), (1, .int (nI j))] := hl
  have hx := hC.1
  have hb := hC.2.1
  refine lv_iload_n hx hb d_AL_get_0 rfl (lv_at hl 1 rfl) ?_
  refine lv_aload_n hx hb d_AL_get_1 rfl (lv_at hl 0 rfl) ?_
  refine zget hC hd (e_list hi) rfl i_AL 2 (by decide) q_48 (Or.inl rfl) (v := .int (nI (xn Z 2 i))) rfl d_AL_get_2 ?_
  refine zbF_i (r := (nI j)) hd (zrunSF (n := 2) (rest := []) hC hd (cF_Objs_checkIndex l G ad ow Z j (xn Z 2 i) hs (by omega)) q_356 q_357 q_18 q_358 rfl rfl rfl (by decide +kernel) ⟨by decide, by decide⟩ rfl hl.1 (Nat.le_of_ble_eq_true rfl) d_AL_get_5 ⟨by decide, by decide⟩) (fun H hd => ?_)
  refine lv_pop hx hb d_AL_get_8 rfl ?_
  refine lv_aload_n hx hb d_AL_get_9 rfl (lv_at hl 0 rfl) ?_
  refine lv_iload_n hx hb d_AL_get_10 rfl (lv_at hl 1 rfl) ?_
  refine zbF_a (r := (ad 1 k)) hd (zrunVF (n := 1) (rest := []) hC hd (e_list hi) rfl (cF_AL_elementData l G ad ow Z i j k hi h4 hc hcn hj hk) q_362 q_363 q_364 q_4 q_365 rfl rfl rfl (by decide +kernel) ⟨by decide, by decide⟩ rfl hl.1 (Nat.le_of_ble_eq_true rfl) d_AL_get_11 ⟨by decide, by decide⟩) (fun H hd => ?_)
  exact zfaF hC hd hr (Or.inl ⟨_, rfl⟩) hlk d_AL_get_14 rfl rfl
theorem cF_get (l : Launch) (G : Gt) (ad : Nat → Nat → Nat) (ow : Nat → Nat × Nat) (Z : Zt) (hX : XS Z) (i j k : Nat) (hi : i < xn Z 0 3) (hj : j < xn Z 2 i) (hk : xc Z 4 i j = k + 1) : Met l y_AL_get w_AL_get ({ frames := 2, cells := 0, slots := 0, locals := 43 }) (zPc G ad ow Z [.ref (ad 3 i), .int (nI j)]) (Qd G ad ow Z (some (.ref (ad 1 k)))) 0 0 fF :=
  cF_AL_get l G ad ow Z i j k hi (by have := hX.1; omega) (by have := hX.2.2.1.1 i; omega) (by have := hX.2.2.1.2 i; omega) (by have := hX.2.2.1.1 i; omega) hk hj (hX.2.2.1.1 i)

set_option maxHeartbeats 4000000 in
theorem cF_KG_isKey (l : Launch) (G : Gt) (ad : Nat → Nat → Nat) (ow : Nat → Nat × Nat) (Z : Zt) (hX : XS Z) (k r : Int32) (h : x_isKey Z k = r) : Met l y_KG_isKey w_KG_isKey ({ frames := 1, cells := 0, slots := 0, locals := 20 }) (zPc G ad ow Z [.ref (ad 0 0), .int k]) (Qd G ad ow Z (some (.int r))) 0 0 fF := by
  refine zopenF (cc := b_KG_isKey) (maxL := 2) (ret := (some FieldType.boolean)) (by decide) rfl (Nat.le_of_ble_eq_true rfl) ?_
  intro p e s m below meth c ls hC hr hlk hnm hd hl
  have hC : Cx G p c m s _ "KeyGraph" b_KG_isKey 2 := hC
  have hl : lv_has ls 2 [(0, .ref (ad 0 0)), (1, .int k)] := hl
  have hx := hC.1
  have hb := hC.2.1
  refine lv_iload_n hx hb d_KG_isKey_0 rfl (lv_at hl 1 rfl) ?_
  refine lv_if_lt (tgt := 19) hx hb d_KG_isKey_1 (by decide) (fun c1 => ?_) (fun c1 => ?_)
  · refine lv_iconst (v := 0) hx hb d_KG_isKey_19 (by decide) ?_
    exact zfzF hC hd hr hlk d_KG_isKey_20 (by decide) (by rw [← h]; unfold x_isKey; (repeat (first | (rw [if_pos]; rotate_left; first | assumption | decide) | (rw [if_neg]; rotate_left; first | assumption | decide))) <;> (try rfl)) rfl
  · refine lv_iload_n hx hb d_KG_isKey_4 rfl (lv_at hl 1 rfl) ?_
    refine lv_aload_n hx hb d_KG_isKey_5 rfl (lv_at hl 0 rfl) ?_
    refine zget hC hd (e_kg hX.kg) rfl i_KG 0 (by decide) q_80 (Or.inl rfl) (v := .ref (ad 3 0)) rfl d_KG_isKey_6 ?_
    refine zbF_i (r := (nI (xn Z 2 0))) hd (zrunVF (n := 0) (rest := [.int k]) hC hd (e_list hX.l0) rfl (cF_AL_size l G ad ow Z 0 hX.l0) q_101 q_102 q_103 q_4 q_104 rfl rfl rfl (by decide +kernel) ⟨by decide, by decide⟩ rfl hl.1 (Nat.le_of_ble_eq_true rfl) d_KG_isKey_9 ⟨by decide, by decide⟩) (fun H hd => ?_)
    refine lv_icmp_ge (tgt := 19) hx hb d_KG_isKey_12 (by decide) (fun c12 => ?_) (fun c12 => ?_)
    · refine lv_iconst (v := 0) hx hb d_KG_isKey_19 (by decide) ?_
      exact zfzF hC hd hr hlk d_KG_isKey_20 (by decide) (by rw [← h]; unfold x_isKey; (repeat (first | (rw [if_pos]; rotate_left; first | assumption | decide) | (rw [if_neg]; rotate_left; first | assumption | decide))) <;> (try rfl)) rfl
    · refine lv_iconst (v := 1) hx hb d_KG_isKey_15 (by decide) ?_
      refine lv_goto (tgt := 20) hx hb d_KG_isKey_16 (by decide) ?_
      exact zfzF hC hd hr hlk d_KG_isKey_20 (by decide) (by rw [← h]; unfold x_isKey; (repeat (first | (rw [if_pos]; rotate_left; first | assumption | decide) | (rw [if_neg]; rotate_left; first | assumption | decide))) <;> (try rfl)) rfl
set_option maxHeartbeats 4000000 in
theorem cF_KG_isSure_leaf (l : Launch) (G : Gt) (ad : Nat → Nat → Nat) (ow : Nat → Nat × Nat) (Z : Zt) (hX : XS Z) (k : Nat) (r : Int32) (hk : k < xn Z 0 1) (hlf : xn Z 1 k = 6) (h : x_isSure Z k = r) : Met l y_KG_isSure w_KG_isSure ({ frames := 1, cells := 0, slots := 0, locals := 20 }) (zPc G ad ow Z [.ref (ad 0 0), .ref (ad 1 k)]) (Qd G ad ow Z (some (.int r))) 0 0 fF := by
  refine zopenF (cc := b_KG_isSure) (maxL := 2) (ret := (some FieldType.boolean)) (by decide) rfl (Nat.le_of_ble_eq_true rfl) ?_
  intro p e s m below meth c ls hC hr hlk hnm hd hl
  have hC : Cx G p c m s _ "KeyGraph" b_KG_isSure 2 := hC
  have hl : lv_has ls 2 [(0, .ref (ad 0 0)), (1, .ref (ad 1 k))] := hl
  have hx := hC.1
  have hb := hC.2.1
  refine lv_aload_n hx hb d_KG_isSure_0 rfl (lv_at hl 1 rfl) ?_
  refine zbF_i (r := 1) hd (zrunVF (n := 0) (rest := []) hC hd (e_key hk) rfl (cF_Key_isLeaf_y l G ad ow Z k hk hlf) q_366 q_367 q_368 q_7 q_369 rfl rfl rfl (by decide +kernel) ⟨by decide, by decide⟩ rfl hl.1 (Nat.le_of_ble_eq_true rfl) d_KG_isSure_1 ⟨by decide, by decide⟩) (fun H hd => ?_)
  refine lv_if_ne (tgt := 25) hx hb d_KG_isSure_4 (by decide) (fun _ => ?_) (fun c => absurd c (by decide))
  refine lv_iconst (v := 1) hx hb d_KG_isSure_25 (by decide) ?_
  refine lv_goto (tgt := 30) hx hb d_KG_isSure_26 (by decide) ?_
  exact zfzF hC hd hr hlk d_KG_isSure_30 (by decide) (by rw [← h]; unfold x_isSure; (repeat (first | (rw [if_pos]; rotate_left; first | assumption | decide) | (rw [if_neg]; rotate_left; first | assumption | decide))) <;> (try rfl)) rfl
set_option maxHeartbeats 4000000 in
theorem cF_KG_isSure_fn (l : Launch) (G : Gt) (ad : Nat → Nat → Nat) (ow : Nat → Nat × Nat) (Z : Zt) (hX : XS Z) (k : Nat) (r : Int32) (hk : k < xn Z 0 1) (hlf : ¬ xn Z 1 k = 6) (h : x_isSure Z k = r) : Met l y_KG_isSure w_KG_isSure ({ frames := 1, cells := 0, slots := 0, locals := 20 }) (zPc G ad ow Z [.ref (ad 0 0), .ref (ad 1 k)]) (Qd G ad ow Z (some (.int r))) 0 0 fF := by
  refine zopenF (cc := b_KG_isSure) (maxL := 2) (ret := (some FieldType.boolean)) (by decide) rfl (Nat.le_of_ble_eq_true rfl) ?_
  intro p e s m below meth c ls hC hr hlk hnm hd hl
  have hC : Cx G p c m s _ "KeyGraph" b_KG_isSure 2 := hC
  have hl : lv_has ls 2 [(0, .ref (ad 0 0)), (1, .ref (ad 1 k))] := hl
  have hx := hC.1
  have hb := hC.2.1
  refine lv_aload_n hx hb d_KG_isSure_0 rfl (lv_at hl 1 rfl) ?_
  refine zbF_i (r := 0) hd (zrunVF (n := 0) (rest := []) hC hd (e_key hk) rfl (cF_Key_isLeaf_n l G ad ow Z k hk hlf) q_366 q_367 q_368 q_7 q_369 rfl rfl rfl (by decide +kernel) ⟨by decide, by decide⟩ rfl hl.1 (Nat.le_of_ble_eq_true rfl) d_KG_isSure_1 ⟨by decide, by decide⟩) (fun H hd => ?_)
  refine lv_if_ne (tgt := 25) hx hb d_KG_isSure_4 (by decide) (fun c => absurd c (by decide)) (fun _ => ?_)
  refine lv_aload_n hx hb d_KG_isSure_7 rfl (lv_at hl 1 rfl) ?_
  refine zgetN hC hd (e_key hk) rfl i_Key 3 (by decide) z_119 (Or.inl rfl) (v := .int (xi Z 1 k)) rfl d_KG_isSure_8 ?_
  refine lv_if_le (tgt := 29) hx hb d_KG_isSure_11 (by decide) (fun c11 => ?_) (fun c11 => ?_)
  · refine lv_iconst (v := 0) hx hb d_KG_isSure_29 (by decide) ?_
    exact zfzF hC hd hr hlk d_KG_isSure_30 (by decide) (by rw [← h]; unfold x_isSure; (repeat (first | (rw [if_pos]; rotate_left; first | assumption | decide) | (rw [if_neg]; rotate_left; first | assumption | decide))) <;> (try rfl)) rfl
  · refine lv_aload_n hx hb d_KG_isSure_14 rfl (lv_at hl 1 rfl) ?_
    refine zgetN hC hd (e_key hk) rfl i_Key 6 (by decide) z_123 (Or.inl rfl) (v := .int (xi Z 3 k)) rfl d_KG_isSure_15 ?_
    refine lv_aload_n hx hb d_KG_isSure_18 rfl (lv_at hl 0 rfl) ?_
    refine zget hC hd (e_kg hX.kg) rfl i_KG 3 (by decide) q_83 (Or.inl rfl) (v := .int (xi Z 14 0)) rfl d_KG_isSure_19 ?_
    refine lv_icmp_ne (tgt := 29) hx hb d_KG_isSure_22 (by decide) (fun c22 => ?_) (fun c22 => ?_)
    · refine lv_iconst (v := 0) hx hb d_KG_isSure_29 (by decide) ?_
      exact zfzF hC hd hr hlk d_KG_isSure_30 (by decide) (by rw [← h]; unfold x_isSure; (repeat (first | (rw [if_pos]; rotate_left; first | assumption | decide) | (rw [if_neg]; rotate_left; first | assumption | decide))) <;> (try rfl)) rfl
    · refine lv_iconst (v := 1) hx hb d_KG_isSure_25 (by decide) ?_
      refine lv_goto (tgt := 30) hx hb d_KG_isSure_26 (by decide) ?_
      exact zfzF hC hd hr hlk d_KG_isSure_30 (by decide) (by rw [← h]; unfold x_isSure; (repeat (first | (rw [if_pos]; rotate_left; first | assumption | decide) | (rw [if_neg]; rotate_left; first | assumption | decide))) <;> (try rfl)) rfl
theorem cF_KG_isSure (l : Launch) (G : Gt) (ad : Nat → Nat → Nat) (ow : Nat → Nat × Nat) (Z : Zt) (hX : XS Z) (k : Nat) (r : Int32) (hk : k < xn Z 0 1) (h : x_isSure Z k = r) : Met l y_KG_isSure w_KG_isSure ({ frames := 1, cells := 0, slots := 0, locals := 20 }) (zPc G ad ow Z [.ref (ad 0 0), .ref (ad 1 k)]) (Qd G ad ow Z (some (.int r))) 0 0 fF := by
  by_cases hlf : xn Z 1 k = 6
  · exact cF_KG_isSure_leaf l G ad ow Z hX k r hk hlf h
  · exact cF_KG_isSure_fn l G ad ow Z hX k r hk hlf h
set_option maxHeartbeats 4000000 in
theorem cF_KG_state_no (l : Launch) (G : Gt) (ad : Nat → Nat → Nat) (ow : Nat → Nat × Nat) (Z : Zt) (hX : XS Z) (k : Int32) (h0 : x_isKey Z k = 0) : Met l y_KG_state w_KG_state ({ frames := 3, cells := 0, slots := 0, locals := 64 }) (zPc G ad ow Z [.ref (ad 0 0), .int k]) (Qd G ad ow Z (some (.int (x_state Z k)))) 0 0 fF := by
  refine zopenF (cc := b_KG_state) (maxL := 2) (ret := (some FieldType.int)) (by decide) rfl (Nat.le_of_ble_eq_true rfl) ?_
  intro p e s m below meth c ls hC hr hlk hnm hd hl
  have hC : Cx G p c m s _ "KeyGraph" b_KG_state 2 := hC
  have hl : lv_has ls 2 [(0, .ref (ad 0 0)), (1, .int k)] := hl
  have hx := hC.1
  have hb := hC.2.1
  refine lv_aload_n hx hb d_KG_state_0 rfl (lv_at hl 0 rfl) ?_
  refine lv_iload_n hx hb d_KG_state_1 rfl (lv_at hl 1 rfl) ?_
  refine zbF_i (r := 0) hd (zrunVF (n := 1) (rest := []) hC hd (e_kg hX.kg) rfl (cF_KG_isKey l G ad ow Z hX k 0 h0) q_348 q_350 qp_4 q_1 q_351 rfl rfl rfl (by decide +kernel) ⟨by decide, by decide⟩ rfl hl.1 (Nat.le_of_ble_eq_true rfl) d_KG_state_2 ⟨by decide, by decide⟩) (fun H hd => ?_)
  refine lv_if_eq (tgt := 43) hx hb d_KG_state_5 (by decide) (fun _ => ?_) (fun c => absurd c (by decide))
  refine lv_iconst (v := 0) hx hb d_KG_state_43 (by decide) ?_
  exact zfiF hC hd hr hlk d_KG_state_44 (by unfold x_state; (repeat (first | (rw [if_pos]; rotate_left; first | assumption | decide) | (rw [if_neg]; rotate_left; first | assumption | decide))) <;> (try rfl)) rfl
set_option maxHeartbeats 4000000 in
theorem cF_KG_state_yes (l : Launch) (G : Gt) (ad : Nat → Nat → Nat) (ow : Nat → Nat × Nat) (Z : Zt) (hX : XS Z) (k : Nat) (hk : k < xn Z 0 1) (h0 : x_isKey Z (nI k) = 1) : Met l y_KG_state w_KG_state ({ frames := 3, cells := 0, slots := 0, locals := 64 }) (zPc G ad ow Z [.ref (ad 0 0), .int (nI k)]) (Qd G ad ow Z (some (.int (x_state Z (nI k))))) 0 0 fF := by
  refine zopenF (cc := b_KG_state) (maxL := 2) (ret := (some FieldType.int)) (by decide) rfl (Nat.le_of_ble_eq_true rfl) ?_
  intro p e s m below meth c ls hC hr hlk hnm hd hl
  have hC : Cx G p c m s _ "KeyGraph" b_KG_state 2 := hC
  have hl : lv_has ls 2 [(0, .ref (ad 0 0)), (1, .int (nI k))] := hl
  have hx := hC.1
  have hb := hC.2.1
  have h40 := hX.k40
  have hcl : (nI k).toNatClampNeg = k := nI_clamp (by omega)
  have h0n : ¬ x_isKey Z (nI k) = 0 := by rw [h0]; decide
  refine lv_aload_n hx hb d_KG_state_0 rfl (lv_at hl 0 rfl) ?_
  refine lv_iload_n hx hb d_KG_state_1 rfl (lv_at hl 1 rfl) ?_
  refine zbF_i (r := 1) hd (zrunVF (n := 1) (rest := []) hC hd (e_kg hX.kg) rfl (cF_KG_isKey l G ad ow Z hX (nI k) 1 h0) q_348 q_350 qp_4 q_1 q_351 rfl rfl rfl (by decide +kernel) ⟨by decide, by decide⟩ rfl hl.1 (Nat.le_of_ble_eq_true rfl) d_KG_state_2 ⟨by decide, by decide⟩) (fun H hd => ?_)
  refine lv_if_eq (tgt := 43) hx hb d_KG_state_5 (by decide) (fun c => absurd c (by decide)) (fun _ => ?_)
  refine lv_aload_n hx hb d_KG_state_8 rfl (lv_at hl 0 rfl) ?_
  refine lv_aload_n hx hb d_KG_state_9 rfl (lv_at hl 0 rfl) ?_
  refine zget hC hd (e_kg hX.kg) rfl i_KG 0 (by decide) q_80 (Or.inl rfl) (v := .ref (ad 3 0)) rfl d_KG_state_10 ?_
  refine lv_iload_n hx hb d_KG_state_13 rfl (lv_at hl 1 rfl) ?_
  refine zbF_a (r := (ad 1 k)) hd (zrunVF (n := 1) (rest := [.ref (ad 0 0)]) hC hd (e_list hX.l0) rfl (cF_get l G ad ow Z hX 0 k k hX.l0 (show k < xn Z 2 0 by rw [hX.kl]; exact hk) (hX.ke hk)) q_352 q_353 q_354 q_4 q_355 rfl rfl rfl (by decide +kernel) ⟨by decide, by decide⟩ rfl hl.1 (Nat.le_of_ble_eq_true rfl) d_KG_state_14 ⟨by decide, by decide⟩) (fun H hd => ?_)
  refine zcast hC hd (e_key hk) q_105 d_KG_state_17 ?_
  refine zbF_i (r := (x_isSure Z k)) hd (zrunVF (n := 1) (rest := []) hC hd (e_kg hX.kg) rfl (cF_KG_isSure l G ad ow Z hX k (x_isSure Z k) hk rfl) q_421 q_423 qp_9 q_1 q_424 rfl rfl rfl (by decide +kernel) ⟨by decide, by decide⟩ rfl hl.1 (Nat.le_of_ble_eq_true rfl) d_KG_state_20 ⟨by decide, by decide⟩) (fun H hd => ?_)
  refine lv_if_eq (tgt := 43) hx hb d_KG_state_23 (by decide) (fun c23 => ?_) (fun c23 => ?_)
  · refine lv_iconst (v := 0) hx hb d_KG_state_43 (by decide) ?_
    exact zfiF hC hd hr hlk d_KG_state_44 (by unfold x_state; rw [hcl]; (repeat (first | (rw [if_pos]; rotate_left; first | assumption | decide) | (rw [if_neg]; rotate_left; first | assumption | decide))) <;> (try rfl)) rfl
  · refine lv_aload_n hx hb d_KG_state_26 rfl (lv_at hl 0 rfl) ?_
    refine zget hC hd (e_kg hX.kg) rfl i_KG 0 (by decide) q_80 (Or.inl rfl) (v := .ref (ad 3 0)) rfl d_KG_state_27 ?_
    refine lv_iload_n hx hb d_KG_state_30 rfl (lv_at hl 1 rfl) ?_
    refine zbF_a (r := (ad 1 k)) hd (zrunVF (n := 1) (rest := []) hC hd (e_list hX.l0) rfl (cF_get l G ad ow Z hX 0 k k hX.l0 (show k < xn Z 2 0 by rw [hX.kl]; exact hk) (hX.ke hk)) q_352 q_353 q_354 q_4 q_355 rfl rfl rfl (by decide +kernel) ⟨by decide, by decide⟩ rfl hl.1 (Nat.le_of_ble_eq_true rfl) d_KG_state_31 ⟨by decide, by decide⟩) (fun H hd => ?_)
    refine zcast hC hd (e_key hk) q_105 d_KG_state_34 ?_
    refine zgetN hC hd (e_key hk) rfl i_Key 3 (by decide) z_119 (Or.inl rfl) (v := .int (xi Z 1 k)) rfl d_KG_state_37 ?_
    refine lv_goto (tgt := 44) hx hb d_KG_state_40 (by decide) ?_
    exact zfiF hC hd hr hlk d_KG_state_44 (by unfold x_state; rw [hcl]; (repeat (first | (rw [if_pos]; rotate_left; first | assumption | decide) | (rw [if_neg]; rotate_left; first | assumption | decide))) <;> (try rfl)) rfl
theorem cF_KG_state (l : Launch) (G : Gt) (ad : Nat → Nat → Nat) (ow : Nat → Nat × Nat) (Z : Zt) (hX : XS Z) (k : Int32) : Met l y_KG_state w_KG_state ({ frames := 3, cells := 0, slots := 0, locals := 64 }) (zPc G ad ow Z [.ref (ad 0 0), .int k]) (Qd G ad ow Z (some (.int (x_state Z k)))) 0 0 fF := by
  have h40 := hX.k40
  have hkl := hX.kl
  rcases x_isKey_cases Z k (by omega) with h0 | ⟨j, hj, rfl, h0⟩
  · exact cF_KG_state_no l G ad ow Z hX  k  h0
  · exact cF_KG_state_yes l G ad ow Z hX  j  (by omega) h0
