def x_isKey (Z : Zt) (k : Int32) : Int32 := if k < 0 then 0 else if nI (xn Z 2 0) ≤ k then 0 else 1
theorem x_isKey_cases (Z : Zt) (k : Int32) (hn : xn Z 2 0 ≤ 40) : x_isKey Z k = 0 ∨ ∃ j, j < xn Z 2 0 ∧ k = nI j ∧ x_isKey Z k = 1 := by
  unfold x_isKey
  by_cases h1 : k < 0
  · exact Or.inl (if_pos h1)
  · by_cases h2 : nI (xn Z 2 0) ≤ k
    · exact Or.inl (by rw [if_neg h1, if_pos h2])
    · obtain ⟨j, hj, rfl⟩ := nI_of h1
      exact Or.inr ⟨j, Nat.not_le.mp fun q => h2 (nI_le q hj), rfl, by rw [if_neg h1, if_neg h2]⟩
def x_isSure (Z : Zt) (k : Nat) : Int32 := if xn Z 1 k = 6 then 1 else if xi Z 1 k ≤ 0 then 0 else if xi Z 3 k = xi Z 14 0 then 1 else 0
def x_isWorker (w : Int32) : Int32 := if w < 0 then 0 else if 4 ≤ w then 0 else 1
def x_isFn (Z : Zt) (k : Int32) : Int32 := if x_isKey Z k = 0 then 0 else if xn Z 1 k.toNatClampNeg = 6 then 0 else 1
def x_chkV (Z : Zt) (k : Nat) : Int32 := if xi Z 1 k ≤ 0 then 0 else if xi Z 3 k < xi Z 4 k then 0 else 1
def x_putA (Z : Zt) (u k : Nat) : Zt := sn (si (sn (si (sn (sc Z 7 u (xn Z 9 u) (k + 1)) 9 u (xn Z 9 u + 1)) 8 k (nI u)) 6 k 0) 9 k (x_chkV Z k)) 5 k 0
def x_put (Z : Zt) (u k : Nat) : Zt := x_begin (x_putA Z u k) k (xn Z 2 (k + 2))
def x_found (Z : Zt) (u k : Nat) : Zt := sn (si (si Z 3 k (xi Z 14 0)) 8 k (-1)) 9 u (xn Z 9 u - 1)
def x_endsA (Z : Zt) (k : Nat) (st : Int32) (v : Int64) : Zt := if xi Z 1 k = st then (if xl Z 1 k = v then Z else si Z 2 k (xi Z 14 0)) else si Z 2 k (xi Z 14 0)
def x_ends (Z : Zt) (u k : Nat) (st : Int32) (v : Int64) : Zt := x_found (si (sn (sn (sn (sl (si (x_endsA Z k st v) 1 k st) 1 k v) 7 k (xn Z 8 k)) 8 k (xn Z 7 k)) 4 k (xn Z 5 k)) 5 k (xi Z 5 k + 1)) u k
def x_goesDown (Z : Zt) (u k : Nat) : Zt × Int32 := if xi Z 8 k < 0 then (x_put Z u k, 1) else (Z, 3)

set_option maxHeartbeats 4000000 in
theorem c_KG_isKey (l : Launch) (G : Gt) (ad : Nat → Nat → Nat) (ow : Nat → Nat × Nat) (Z : Zt) (hX : XS Z) (k r : Int32) (h : x_isKey Z k = r) : Met l y_KG_isKey w_KG_isKey ({ frames := 1, cells := 0, slots := 0, locals := 20 }) (zPc G ad ow Z [.ref (ad 0 0), .int k]) (Qd G ad ow Z (some (.int r))) 0 0 (zA G) := by
  refine zopen (cc := b_KG_isKey) (maxL := 2) (ret := (some FieldType.boolean)) (by decide) rfl (Nat.le_of_ble_eq_true rfl) ?_
  intro p e s m below meth c ls hC hr hlk hnm hd hl
  have hC : Cx G p c m s _ "KeyGraph" b_KG_isKey 2 := hC
  have hl : lv_has ls 2 [(0, .ref (ad 0 0)), (1, .int k)] := hl
  have hx := hC.1
  have hb := hC.2.1
  refine lv_iload_n hx hb d_KG_isKey_0 rfl (lv_at hl 1 rfl) ?_
  refine lv_if_lt (tgt := 19) hx hb d_KG_isKey_1 (by decide) (fun c1 => ?_) (fun c1 => ?_)
  · refine lv_iconst (v := 0) hx hb d_KG_isKey_19 (by decide) ?_
    exact zfz hC hd hr hlk d_KG_isKey_20 (by decide) (by rw [← h]; unfold x_isKey; (repeat (first | (rw [if_pos]; rotate_left; first | assumption | decide) | (rw [if_neg]; rotate_left; first | assumption | decide))) <;> (try rfl)) rfl
  · refine lv_iload_n hx hb d_KG_isKey_4 rfl (lv_at hl 1 rfl) ?_
    refine lv_aload_n hx hb d_KG_isKey_5 rfl (lv_at hl 0 rfl) ?_
    refine zget hC hd (e_kg hX.kg) rfl i_KG 0 (by decide) q_80 (Or.inl rfl) (v := .ref (ad 3 0)) rfl d_KG_isKey_6 ?_
    refine zb_i (r := (nI (xn Z 2 0))) hd (zrunV (n := 0) (rest := [.int k]) hC hd (e_list hX.l0) rfl (c_AL_size l G ad ow Z 0 hX.l0) q_101 q_102 q_103 q_4 q_104 rfl rfl rfl (by decide +kernel) ⟨by decide, by decide⟩ rfl hl.1 (Nat.le_of_ble_eq_true rfl) d_KG_isKey_9 ⟨by decide, by decide⟩) (fun H locs hd => ?_)
    refine lv_icmp_ge (tgt := 19) hx hb d_KG_isKey_12 (by decide) (fun c12 => ?_) (fun c12 => ?_)
    · refine lv_iconst (v := 0) hx hb d_KG_isKey_19 (by decide) ?_
      exact zfz hC hd hr hlk d_KG_isKey_20 (by decide) (by rw [← h]; unfold x_isKey; (repeat (first | (rw [if_pos]; rotate_left; first | assumption | decide) | (rw [if_neg]; rotate_left; first | assumption | decide))) <;> (try rfl)) rfl
    · refine lv_iconst (v := 1) hx hb d_KG_isKey_15 (by decide) ?_
      refine lv_goto (tgt := 20) hx hb d_KG_isKey_16 (by decide) ?_
      exact zfz hC hd hr hlk d_KG_isKey_20 (by decide) (by rw [← h]; unfold x_isKey; (repeat (first | (rw [if_pos]; rotate_left; first | assumption | decide) | (rw [if_neg]; rotate_left; first | assumption | decide))) <;> (try rfl)) rfl
set_option maxHeartbeats 4000000 in
theorem c_KG_isWorker (l : Launch) (G : Gt) (ad : Nat → Nat → Nat) (ow : Nat → Nat × Nat) (Z : Zt) (w r : Int32) (h : x_isWorker w = r) : Met l y_KG_isWorker w_KG_isWorker ({ frames := 0, cells := 0, slots := 0, locals := 0 }) (zPc G ad ow Z [.int w]) (Qd G ad ow Z (some (.int r))) 0 0 (zA G) := by
  refine zopen (cc := b_KG_isWorker) (maxL := 1) (ret := (some FieldType.boolean)) (by decide) rfl (Nat.le_of_ble_eq_true rfl) ?_
  intro p e s m below meth c ls hC hr hlk hnm hd hl
  have hC : Cx G p c m s _ "KeyGraph" b_KG_isWorker 1 := hC
  have hl : lv_has ls 1 [(0, .int w)] := hl
  have hx := hC.1
  have hb := hC.2.1
  refine lv_iload_n hx hb d_KG_isWorker_0 rfl (lv_at hl 0 rfl) ?_
  refine lv_if_lt (tgt := 13) hx hb d_KG_isWorker_1 (by decide) (fun c1 => ?_) (fun c1 => ?_)
  · refine lv_iconst (v := 0) hx hb d_KG_isWorker_13 (by decide) ?_
    exact zfz hC hd hr hlk d_KG_isWorker_14 (by decide) (by rw [← h]; unfold x_isWorker; (repeat (first | (rw [if_pos]; rotate_left; first | assumption | decide) | (rw [if_neg]; rotate_left; first | assumption | decide))) <;> (try rfl)) rfl
  · refine lv_iload_n hx hb d_KG_isWorker_4 rfl (lv_at hl 0 rfl) ?_
    refine lv_iconst (v := 4) hx hb d_KG_isWorker_5 (by decide) ?_
    refine lv_icmp_ge (tgt := 13) hx hb d_KG_isWorker_6 (by decide) (fun c6 => ?_) (fun c6 => ?_)
    · refine lv_iconst (v := 0) hx hb d_KG_isWorker_13 (by decide) ?_
      exact zfz hC hd hr hlk d_KG_isWorker_14 (by decide) (by rw [← h]; unfold x_isWorker; (repeat (first | (rw [if_pos]; rotate_left; first | assumption | decide) | (rw [if_neg]; rotate_left; first | assumption | decide))) <;> (try rfl)) rfl
    · refine lv_iconst (v := 1) hx hb d_KG_isWorker_9 (by decide) ?_
      refine lv_goto (tgt := 14) hx hb d_KG_isWorker_10 (by decide) ?_
      exact zfz hC hd hr hlk d_KG_isWorker_14 (by decide) (by rw [← h]; unfold x_isWorker; (repeat (first | (rw [if_pos]; rotate_left; first | assumption | decide) | (rw [if_neg]; rotate_left; first | assumption | decide))) <;> (try rfl)) rfl
set_option maxHeartbeats 4000000 in
theorem c_KG_isFunction_no (l : Launch) (G : Gt) (ad : Nat → Nat → Nat) (ow : Nat → Nat × Nat) (Z : Zt) (hX : XS Z) (k r : Int32) (h0 : x_isKey Z k = 0) (h : x_isFn Z k = r) : Met l y_KG_isFunction w_KG_isFunction ({ frames := 3, cells := 0, slots := 0, locals := 64 }) (zPc G ad ow Z [.ref (ad 0 0), .int k]) (Qd G ad ow Z (some (.int r))) 0 0 (zA G) := by
  refine zopen (cc := b_KG_isFunction) (maxL := 2) (ret := (some FieldType.boolean)) (by decide) rfl (Nat.le_of_ble_eq_true rfl) ?_
  intro p e s m below meth c ls hC hr hlk hnm hd hl
  have hC : Cx G p c m s _ "KeyGraph" b_KG_isFunction 2 := hC
  have hl : lv_has ls 2 [(0, .ref (ad 0 0)), (1, .int k)] := hl
  have hx := hC.1
  have hb := hC.2.1
  refine lv_aload_n hx hb d_KG_isFunction_0 rfl (lv_at hl 0 rfl) ?_
  refine lv_iload_n hx hb d_KG_isFunction_1 rfl (lv_at hl 1 rfl) ?_
  refine zb_i (r := 0) hd (zrunV (n := 1) (rest := []) hC hd (e_kg hX.kg) rfl (c_KG_isKey l G ad ow Z hX k 0 h0) q_348 q_350 qp_4 q_1 q_351 rfl rfl rfl (by decide +kernel) ⟨by decide, by decide⟩ rfl hl.1 (Nat.le_of_ble_eq_true rfl) d_KG_isFunction_2 ⟨by decide, by decide⟩) (fun H locs hd => ?_)
  refine lv_if_eq (tgt := 29) hx hb d_KG_isFunction_5 (by decide) (fun _ => ?_) (fun c => absurd c (by decide))
  refine lv_iconst (v := 0) hx hb d_KG_isFunction_29 (by decide) ?_
  exact zfz hC hd hr hlk d_KG_isFunction_30 (by decide) (by rw [← h]; unfold x_isFn; (repeat (first | (rw [if_pos]; rotate_left; first | assumption | decide) | (rw [if_neg]; rotate_left; first | assumption | decide))) <;> (try rfl)) rfl
set_option maxHeartbeats 4000000 in
theorem c_KG_isFunction_leaf (l : Launch) (G : Gt) (ad : Nat → Nat → Nat) (ow : Nat → Nat × Nat) (Z : Zt) (hX : XS Z) (k : Nat) (r : Int32) (hk : k < xn Z 0 1) (h0 : x_isKey Z (nI k) = 1) (hlf : xn Z 1 k = 6) (h : x_isFn Z (nI k) = r) : Met l y_KG_isFunction w_KG_isFunction ({ frames := 3, cells := 0, slots := 0, locals := 64 }) (zPc G ad ow Z [.ref (ad 0 0), .int (nI k)]) (Qd G ad ow Z (some (.int r))) 0 0 (zA G) := by
  refine zopen (cc := b_KG_isFunction) (maxL := 2) (ret := (some FieldType.boolean)) (by decide) rfl (Nat.le_of_ble_eq_true rfl) ?_
  intro p e s m below meth c ls hC hr hlk hnm hd hl
  have hC : Cx G p c m s _ "KeyGraph" b_KG_isFunction 2 := hC
  have hl : lv_has ls 2 [(0, .ref (ad 0 0)), (1, .int (nI k))] := hl
  have hx := hC.1
  have hb := hC.2.1
  have h40 := hX.k40
  have h0n : ¬ x_isKey Z (nI k) = 0 := by rw [h0]; decide
  have hcl : (nI k).toNatClampNeg = k := nI_clamp (by omega)
  refine lv_aload_n hx hb d_KG_isFunction_0 rfl (lv_at hl 0 rfl) ?_
  refine lv_iload_n hx hb d_KG_isFunction_1 rfl (lv_at hl 1 rfl) ?_
  refine zb_i (r := 1) hd (zrunV (n := 1) (rest := []) hC hd (e_kg hX.kg) rfl (c_KG_isKey l G ad ow Z hX (nI k) 1 h0) q_348 q_350 qp_4 q_1 q_351 rfl rfl rfl (by decide +kernel) ⟨by decide, by decide⟩ rfl hl.1 (Nat.le_of_ble_eq_true rfl) d_KG_isFunction_2 ⟨by decide, by decide⟩) (fun H locs hd => ?_)
  refine lv_if_eq (tgt := 29) hx hb d_KG_isFunction_5 (by decide) (fun c => absurd c (by decide)) (fun _ => ?_)
  refine lv_aload_n hx hb d_KG_isFunction_8 rfl (lv_at hl 0 rfl) ?_
  refine zget hC hd (e_kg hX.kg) rfl i_KG 0 (by decide) q_80 (Or.inl rfl) (v := .ref (ad 3 0)) rfl d_KG_isFunction_9 ?_
  refine lv_iload_n hx hb d_KG_isFunction_12 rfl (lv_at hl 1 rfl) ?_
  refine zb_a (r := (ad 1 k)) hd (zrunV (n := 1) (rest := []) hC hd (e_list hX.l0) rfl (c_get l G ad ow Z hX 0 k k hX.l0 (show k < xn Z 2 0 by rw [hX.kl]; exact hk) (hX.ke hk)) q_352 q_353 q_354 q_4 q_355 rfl rfl rfl (by decide +kernel) ⟨by decide, by decide⟩ rfl hl.1 (Nat.le_of_ble_eq_true rfl) d_KG_isFunction_13 ⟨by decide, by decide⟩) (fun H locs hd => ?_)
  refine zcast hC hd (e_key hk) q_105 d_KG_isFunction_16 ?_
  refine zb_i (r := 1) hd (zrunV (n := 0) (rest := []) hC hd (e_key hk) rfl (c_Key_isLeaf_y l G ad ow Z k hk hlf) q_366 q_367 q_368 q_7 q_369 rfl rfl rfl (by decide +kernel) ⟨by decide, by decide⟩ rfl hl.1 (Nat.le_of_ble_eq_true rfl) d_KG_isFunction_19 ⟨by decide, by decide⟩) (fun H locs hd => ?_)
  refine lv_if_ne (tgt := 29) hx hb d_KG_isFunction_22 (by decide) (fun _ => ?_) (fun c => absurd c (by decide))
  refine lv_iconst (v := 0) hx hb d_KG_isFunction_29 (by decide) ?_
  exact zfz hC hd hr hlk d_KG_isFunction_30 (by decide) (by rw [← h]; unfold x_isFn; rw [hcl]; (repeat (first | (rw [if_pos]; rotate_left; first | assumption | decide) | (rw [if_neg]; rotate_left; first | assumption | decide))) <;> (try rfl)) rfl
set_option maxHeartbeats 4000000 in
theorem c_KG_isFunction_fn (l : Launch) (G : Gt) (ad : Nat → Nat → Nat) (ow : Nat → Nat × Nat) (Z : Zt) (hX : XS Z) (k : Nat) (r : Int32) (hk : k < xn Z 0 1) (h0 : x_isKey Z (nI k) = 1) (hlf : ¬ xn Z 1 k = 6) (h : x_isFn Z (nI k) = r) : Met l y_KG_isFunction w_KG_isFunction ({ frames := 3, cells := 0, slots := 0, locals := 64 }) (zPc G ad ow Z [.ref (ad 0 0), .int (nI k)]) (Qd G ad ow Z (some (.int r))) 0 0 (zA G) := by
  refine zopen (cc := b_KG_isFunction) (maxL := 2) (ret := (some FieldType.boolean)) (by decide) rfl (Nat.le_of_ble_eq_true rfl) ?_
  intro p e s m below meth c ls hC hr hlk hnm hd hl
  have hC : Cx G p c m s _ "KeyGraph" b_KG_isFunction 2 := hC
  have hl : lv_has ls 2 [(0, .ref (ad 0 0)), (1, .int (nI k))] := hl
  have hx := hC.1
  have hb := hC.2.1
  have h40 := hX.k40
  have h0n : ¬ x_isKey Z (nI k) = 0 := by rw [h0]; decide
  have hcl : (nI k).toNatClampNeg = k := nI_clamp (by omega)
  refine lv_aload_n hx hb d_KG_isFunction_0 rfl (lv_at hl 0 rfl) ?_
  refine lv_iload_n hx hb d_KG_isFunction_1 rfl (lv_at hl 1 rfl) ?_
  refine zb_i (r := 1) hd (zrunV (n := 1) (rest := []) hC hd (e_kg hX.kg) rfl (c_KG_isKey l G ad ow Z hX (nI k) 1 h0) q_348 q_350 qp_4 q_1 q_351 rfl rfl rfl (by decide +kernel) ⟨by decide, by decide⟩ rfl hl.1 (Nat.le_of_ble_eq_true rfl) d_KG_isFunction_2 ⟨by decide, by decide⟩) (fun H locs hd => ?_)
  refine lv_if_eq (tgt := 29) hx hb d_KG_isFunction_5 (by decide) (fun c => absurd c (by decide)) (fun _ => ?_)
  refine lv_aload_n hx hb d_KG_isFunction_8 rfl (lv_at hl 0 rfl) ?_
  refine zget hC hd (e_kg hX.kg) rfl i_KG 0 (by decide) q_80 (Or.inl rfl) (v := .ref (ad 3 0)) rfl d_KG_isFunction_9 ?_
  refine lv_iload_n hx hb d_KG_isFunction_12 rfl (lv_at hl 1 rfl) ?_
  refine zb_a (r := (ad 1 k)) hd (zrunV (n := 1) (rest := []) hC hd (e_list hX.l0) rfl (c_get l G ad ow Z hX 0 k k hX.l0 (show k < xn Z 2 0 by rw [hX.kl]; exact hk) (hX.ke hk)) q_352 q_353 q_354 q_4 q_355 rfl rfl rfl (by decide +kernel) ⟨by decide, by decide⟩ rfl hl.1 (Nat.le_of_ble_eq_true rfl) d_KG_isFunction_13 ⟨by decide, by decide⟩) (fun H locs hd => ?_)
  refine zcast hC hd (e_key hk) q_105 d_KG_isFunction_16 ?_
  refine zb_i (r := 0) hd (zrunV (n := 0) (rest := []) hC hd (e_key hk) rfl (c_Key_isLeaf_n l G ad ow Z k hk hlf) q_366 q_367 q_368 q_7 q_369 rfl rfl rfl (by decide +kernel) ⟨by decide, by decide⟩ rfl hl.1 (Nat.le_of_ble_eq_true rfl) d_KG_isFunction_19 ⟨by decide, by decide⟩) (fun H locs hd => ?_)
  refine lv_if_ne (tgt := 29) hx hb d_KG_isFunction_22 (by decide) (fun c => absurd c (by decide)) (fun _ => ?_)
  refine lv_iconst (v := 1) hx hb d_KG_isFunction_25 (by decide) ?_
  refine lv_goto (tgt := 30) hx hb d_KG_isFunction_26 (by decide) ?_
  exact zfz hC hd hr hlk d_KG_isFunction_30 (by decide) (by rw [← h]; unfold x_isFn; rw [hcl]; (repeat (first | (rw [if_pos]; rotate_left; first | assumption | decide) | (rw [if_neg]; rotate_left; first | assumption | decide))) <;> (try rfl)) rfl
theorem c_KG_isFunction (l : Launch) (G : Gt) (ad : Nat → Nat → Nat) (ow : Nat → Nat × Nat) (Z : Zt) (hX : XS Z) (k r : Int32) (h : x_isFn Z k = r) : Met l y_KG_isFunction w_KG_isFunction ({ frames := 3, cells := 0, slots := 0, locals := 64 }) (zPc G ad ow Z [.ref (ad 0 0), .int k]) (Qd G ad ow Z (some (.int r))) 0 0 (zA G) := by
  have h40 := hX.k40
  have hkl := hX.kl
  rcases x_isKey_cases Z k (by omega) with h0 | ⟨j, hj, rfl, h0⟩
  · exact c_KG_isFunction_no l G ad ow Z hX k r h0 h
  · by_cases hlf : xn Z 1 j = 6
    · exact c_KG_isFunction_leaf l G ad ow Z hX j r (by omega) h0 hlf h
    · exact c_KG_isFunction_fn l G ad ow Z hX j r (by omega) h0 hlf h
set_option maxHeartbeats 4000000 in
theorem c_KG_isSure_leaf (l : Launch) (G : Gt) (ad : Nat → Nat → Nat) (ow : Nat → Nat × Nat) (Z : Zt) (hX : XS Z) (k : Nat) (r : Int32) (hk : k < xn Z 0 1) (hlf : xn Z 1 k = 6) (h : x_isSure Z k = r) : Met l y_KG_isSure w_KG_isSure ({ frames := 1, cells := 0, slots := 0, locals := 20 }) (zPc G ad ow Z [.ref (ad 0 0), .ref (ad 1 k)]) (Qd G ad ow Z (some (.int r))) 0 0 (zA G) := by
  refine zopen (cc := b_KG_isSure) (maxL := 2) (ret := (some FieldType.boolean)) (by decide) rfl (Nat.le_of_ble_eq_true rfl) ?_
  intro p e s m below meth c ls hC hr hlk hnm hd hl
  have hC : Cx G p c m s _ "KeyGraph" b_KG_isSure 2 := hC
  have hl : lv_has ls 2 [(0, .ref (ad 0 0)), (1, .ref (ad 1 k))] := hl
  have hx := hC.1
  have hb := hC.2.1
  refine lv_aload_n hx hb d_KG_isSure_0 rfl (lv_at hl 1 rfl) ?_
  refine zb_i (r := 1) hd (zrunV (n := 0) (rest := []) hC hd (e_key hk) rfl (c_Key_isLeaf_y l G ad ow Z k hk hlf) q_366 q_367 q_368 q_7 q_369 rfl rfl rfl (by decide +kernel) ⟨by decide, by decide⟩ rfl hl.1 (Nat.le_of_ble_eq_true rfl) d_KG_isSure_1 ⟨by decide, by decide⟩) (fun H locs hd => ?_)
  refine lv_if_ne (tgt := 25) hx hb d_KG_isSure_4 (by decide) (fun _ => ?_) (fun c => absurd c (by decide))
  refine lv_iconst (v := 1) hx hb d_KG_isSure_25 (by decide) ?_
  refine lv_goto (tgt := 30) hx hb d_KG_isSure_26 (by decide) ?_
  exact zfz hC hd hr hlk d_KG_isSure_30 (by decide) (by rw [← h]; unfold x_isSure; (repeat (first | (rw [if_pos]; rotate_left; first | assumption | decide) | (rw [if_neg]; rotate_left; first | assumption | decide))) <;> (try rfl)) rfl
set_option maxHeartbeats 4000000 in
theorem c_KG_isSure_fn (l : Launch) (G : Gt) (ad : Nat → Nat → Nat) (ow : Nat → Nat × Nat) (Z : Zt) (hX : XS Z) (k : Nat) (r : Int32) (hk : k < xn Z 0 1) (hlf : ¬ xn Z 1 k = 6) (h : x_isSure Z k = r) : Met l y_KG_isSure w_KG_isSure ({ frames := 1, cells := 0, slots := 0, locals := 20 }) (zPc G ad ow Z [.ref (ad 0 0), .ref (ad 1 k)]) (Qd G ad ow Z (some (.int r))) 0 0 (zA G) := by
  refine zopen (cc := b_KG_isSure) (maxL := 2) (ret := (some FieldType.boolean)) (by decide) rfl (Nat.le_of_ble_eq_true rfl) ?_
  intro p e s m below meth c ls hC hr hlk hnm hd hl
  have hC : Cx G p c m s _ "KeyGraph" b_KG_isSure 2 := hC
  have hl : lv_has ls 2 [(0, .ref (ad 0 0)), (1, .ref (ad 1 k))] := hl
  have hx := hC.1
  have hb := hC.2.1
  refine lv_aload_n hx hb d_KG_isSure_0 rfl (lv_at hl 1 rfl) ?_
  refine zb_i (r := 0) hd (zrunV (n := 0) (rest := []) hC hd (e_key hk) rfl (c_Key_isLeaf_n l G ad ow Z k hk hlf) q_366 q_367 q_368 q_7 q_369 rfl rfl rfl (by decide +kernel) ⟨by decide, by decide⟩ rfl hl.1 (Nat.le_of_ble_eq_true rfl) d_KG_isSure_1 ⟨by decide, by decide⟩) (fun H locs hd => ?_)
  refine lv_if_ne (tgt := 25) hx hb d_KG_isSure_4 (by decide) (fun c => absurd c (by decide)) (fun _ => ?_)
  refine lv_aload_n hx hb d_KG_isSure_7 rfl (lv_at hl 1 rfl) ?_
  refine zgetN hC hd (e_key hk) rfl i_Key 3 (by decide) z_119 (Or.inl rfl) (v := .int (xi Z 1 k)) rfl d_KG_isSure_8 ?_
  refine lv_if_le (tgt := 29) hx hb d_KG_isSure_11 (by decide) (fun c11 => ?_) (fun c11 => ?_)
  · refine lv_iconst (v := 0) hx hb d_KG_isSure_29 (by decide) ?_
    exact zfz hC hd hr hlk d_KG_isSure_30 (by decide) (by rw [← h]; unfold x_isSure; (repeat (first | (rw [if_pos]; rotate_left; first | assumption | decide) | (rw [if_neg]; rotate_left; first | assumption | decide))) <;> (try rfl)) rfl
  · refine lv_aload_n hx hb d_KG_isSure_14 rfl (lv_at hl 1 rfl) ?_
    refine zgetN hC hd (e_key hk) rfl i_Key 6 (by decide) z_123 (Or.inl rfl) (v := .int (xi Z 3 k)) rfl d_KG_isSure_15 ?_
    refine lv_aload_n hx hb d_KG_isSure_18 rfl (lv_at hl 0 rfl) ?_
    refine zget hC hd (e_kg hX.kg) rfl i_KG 3 (by decide) q_83 (Or.inl rfl) (v := .int (xi Z 14 0)) rfl d_KG_isSure_19 ?_
    refine lv_icmp_ne (tgt := 29) hx hb d_KG_isSure_22 (by decide) (fun c22 => ?_) (fun c22 => ?_)
    · refine lv_iconst (v := 0) hx hb d_KG_isSure_29 (by decide) ?_
      exact zfz hC hd hr hlk d_KG_isSure_30 (by decide) (by rw [← h]; unfold x_isSure; (repeat (first | (rw [if_pos]; rotate_left; first | assumption | decide) | (rw [if_neg]; rotate_left; first | assumption | decide))) <;> (try rfl)) rfl
    · refine lv_iconst (v := 1) hx hb d_KG_isSure_25 (by decide) ?_
      refine lv_goto (tgt := 30) hx hb d_KG_isSure_26 (by decide) ?_
      exact zfz hC hd hr hlk d_KG_isSure_30 (by decide) (by rw [← h]; unfold x_isSure; (repeat (first | (rw [if_pos]; rotate_left; first | assumption | decide) | (rw [if_neg]; rotate_left; first | assumption | decide))) <;> (try rfl)) rfl
theorem c_KG_isSure (l : Launch) (G : Gt) (ad : Nat → Nat → Nat) (ow : Nat → Nat × Nat) (Z : Zt) (hX : XS Z) (k : Nat) (r : Int32) (hk : k < xn Z 0 1) (h : x_isSure Z k = r) : Met l y_KG_isSure w_KG_isSure ({ frames := 1, cells := 0, slots := 0, locals := 20 }) (zPc G ad ow Z [.ref (ad 0 0), .ref (ad 1 k)]) (Qd G ad ow Z (some (.int r))) 0 0 (zA G) := by
  by_cases hlf : xn Z 1 k = 6
  · exact c_KG_isSure_leaf l G ad ow Z hX k r hk hlf h
  · exact c_KG_isSure_fn l G ad ow Z hX k r hk hlf h
set_option maxHeartbeats 4000000 in
theorem c_KG_put0 (l : Launch) (G : Gt) (ad : Nat → Nat → Nat) (ow : Nat → Nat × Nat) (Z : Zt) (hX : XS Z) (u k : Nat) (hu : u < 5) (hkn : k < xn Z 0 1) (hps : xn Z 9 u < 40) (hk : xn Z 1 k = 0) : Met l y_KG_put w_KG_put ({ frames := 2, cells := 0, slots := 0, locals := 42 }) (zPc G ad ow Z [.ref (ad 0 0), .int (nI u), .ref (ad 1 k)]) (Qd G ad ow (x_put Z u k) (none)) 0 0 (zA G) := by
  refine zopen (cc := b_KG_put) (maxL := 4) (ret := none) (by decide) rfl (Nat.le_of_ble_eq_true rfl) ?_
  intro p e s m below meth c ls hC hr hlk hnm hd hl
  have hC : Cx G p c m s _ "KeyGraph" b_KG_put 4 := hC
  have hl : lv_has ls 4 [(0, .ref (ad 0 0)), (1, .int (nI u)), (2, .ref (ad 1 k))] := hl
  have hx := hC.1
  have hb := hC.2.1
  have hlf : ¬ xn Z 1 k = 6 := by omega
  have h8 := (hX.2.2.2.1 k hkn).1
  refine lv_aload_n hx hb d_KG_put_0 rfl (lv_at hl 0 rfl) ?_
  refine zget hC hd (e_kg hX.kg) rfl i_KG 1 (by decide) q_81 (Or.inl rfl) (v := .ref (ad 8 0)) rfl d_KG_put_1 ?_
  refine lv_iload_n hx hb d_KG_put_4 rfl (lv_at hl 1 rfl) ?_
  refine zaaP (k := u) hC hd (e_piles hX.ps) (by omega) (by decide) rfl d_KG_put_5 ?_
  refine lv_astore_n (lv' := [(3, .ref (ad 6 u)), (0, .ref (ad 0 0)), (1, .int (nI u)), (2, .ref (ad 1 k))]) hx hb d_KG_put_6 rfl hl (by decide) rfl (fun ls hl => ?_)
  refine lv_aload_n hx hb d_KG_put_7 rfl (lv_at hl 0 rfl) ?_
  refine zgetN hC hd (e_pile (hX.pl hu)) rfl i_Pile 0 (by decide) z_72 (Or.inl rfl) (v := .ref (ad 7 u)) rfl d_KG_put_8 ?_
  refine lv_aload_n hx hb d_KG_put_11 rfl (lv_at hl 0 rfl) ?_
  refine zgetN hC hd (e_pile (hX.pl hu)) rfl i_Pile 1 (by decide) z_74 (Or.inl rfl) (v := .int (nI (xn Z 9 u))) rfl d_KG_put_12 ?_
  refine lv_aload_n hx hb d_KG_put_15 rfl (lv_at hl 3 rfl) ?_
  refine zasK (j := xn Z 9 u) (Z' := (sc Z 7 u (xn Z 9 u) (k + 1))) hC hd (e_pka (hX.pa hu)) (e_key hkn) (by omega) (by decide) (u_pka (hX.pa hu)) d_KG_put_16 (fun H locs hd => ?_)
  refine lv_aload_n hx hb d_KG_put_17 rfl (lv_at hl 0 rfl) ?_
  refine lv_dup hx hb d_KG_put_18 rfl ?_
  refine zgetN hC hd (e_pile (hX.pl hu)) rfl i_Pile 1 (by decide) z_74 (Or.inl rfl) (v := .int (nI (xn Z 9 u))) rfl d_KG_put_19 ?_
  refine lv_iconst (v := 1) hx hb d_KG_put_22 (by decide) ?_
  refine zaddN (x := xn Z 9 u) (y := 1) hx hb d_KG_put_23 ?_
  refine zputN (Z' := (sn (sc Z 7 u (xn Z 9 u) (k + 1)) 9 u ((xn Z 9 u) + 1))) (v := .int (nI ((xn Z 9 u) + 1))) hC hd (e_pile (hX.pl hu)) rfl i_Pile t_Pile t_Pile_ok n_Pile 1 (by decide) z_74 rfl rfl rfl rfl (Nat.le_of_ble_eq_true rfl) (u_psz (hX.pl hu)) d_KG_put_24 (fun H locs hd => ?_)
  refine lv_aload_n hx hb d_KG_put_27 rfl (lv_at hl 3 rfl) ?_
  refine lv_iload_n hx hb d_KG_put_28 rfl (lv_at hl 2 rfl) ?_
  refine zputN (Z' := (si (sn (sc Z 7 u (xn Z 9 u) (k + 1)) 9 u ((xn Z 9 u) + 1)) 8 k (nI u))) (v := .int (nI u)) hC hd (e_key hkn) rfl i_Key t_Key t_Key_ok n_Key 15 (by decide) z_135 rfl rfl rfl rfl (Nat.le_of_ble_eq_true rfl) (u_worker hkn) d_KG_put_29 (fun H locs hd => ?_)
  refine lv_aload_n hx hb d_KG_put_32 rfl (lv_at hl 3 rfl) ?_
  refine lv_iconst (v := 0) hx hb d_KG_put_33 (by decide) ?_
  refine zputN (Z' := (sn (si (sn (sc Z 7 u (xn Z 9 u) (k + 1)) 9 u ((xn Z 9 u) + 1)) 8 k (nI u)) 6 k 0)) (v := .int 0) hC hd (e_key hkn) rfl i_Key t_Key t_Key_ok n_Key 16 (by decide) z_136 rfl rfl rfl rfl (Nat.le_of_ble_eq_true rfl) (u_at hkn) d_KG_put_34 (fun H locs hd => ?_)
  refine lv_aload_n hx hb d_KG_put_37 rfl (lv_at hl 3 rfl) ?_
  refine lv_aload_n hx hb d_KG_put_38 rfl (lv_at hl 3 rfl) ?_
  refine zgetN hC hd (e_key hkn) rfl i_Key 3 (by decide) z_119 (Or.inl rfl) (v := .int (xi Z 1 k)) rfl d_KG_put_39 ?_
  refine lv_if_le (tgt := 60) hx hb d_KG_put_42 (by decide) (fun c42 => ?_) (fun c42 => ?_)
  · refine lv_iconst (v := 0) hx hb d_KG_put_60 (by decide) ?_
    refine zputN (Z' := (si (sn (si (sn (sc Z 7 u (xn Z 9 u) (k + 1)) 9 u ((xn Z 9 u) + 1)) 8 k (nI u)) 6 k 0) 9 k 0)) (v := .int 0) hC hd (e_key hkn) rfl i_Key t_Key t_Key_ok n_Key 17 (by decide) z_137 rfl rfl (zbool (by decide)) (zboolf (by decide)) (Nat.le_of_ble_eq_true rfl) (u_checks hkn) d_KG_put_61 (fun H locs hd => ?_)
    refine lv_aload_n hx hb d_KG_put_64 rfl (lv_at hl 3 rfl) ?_
    refine lv_iconst (v := 0) hx hb d_KG_put_65 (by decide) ?_
    refine zputN (Z' := (sn (si (sn (si (sn (sc Z 7 u (xn Z 9 u) (k + 1)) 9 u ((xn Z 9 u) + 1)) 8 k (nI u)) 6 k 0) 9 k 0) 5 k 0)) (v := .int 0) hC hd (e_key hkn) rfl i_Key t_Key t_Key_ok n_Key 14 (by decide) z_133 rfl rfl rfl rfl (Nat.le_of_ble_eq_true rfl) (u_askingC hkn) d_KG_put_66 (fun H locs hd => ?_)
    refine lv_aload_n hx hb d_KG_put_69 rfl (lv_at hl 3 rfl) ?_
    refine zgetN hC hd (e_key hkn) rfl i_Key 1 (by decide) z_116 (Or.inl rfl) (v := .ref (ad 2 k)) (congrArg (fun q => some (va_rf q)) (if_neg hlf)) d_KG_put_70 ?_
    refine lv_aload_n hx hb d_KG_put_73 rfl (lv_at hl 3 rfl) ?_
    refine zgetN hC hd (e_key hkn) rfl i_Key 2 (by decide) z_118 (Or.inl rfl) (v := .ref (ad 3 (k + 2))) rfl d_KG_put_74 ?_
    refine zb_i (r := (nI (xn Z 2 (k + 2)))) hd (zrunV (n := 0) (rest := [.ref (ad 2 k)]) hC hd (e_list (hX.l hkn)) rfl (c_AL_size l G ad ow (sn (si (sn (si (sn (sc Z 7 u (xn Z 9 u) (k + 1)) 9 u ((xn Z 9 u) + 1)) 8 k (nI u)) 6 k 0) 9 k 0) 5 k 0) (k + 2) (hX.l hkn)) q_101 q_102 q_103 q_4 q_104 rfl rfl rfl (by decide +kernel) ⟨by decide, by decide⟩ rfl hl.1 (Nat.le_of_ble_eq_true rfl) d_KG_put_77 ⟨by decide, by decide⟩) (fun H locs hd => ?_)
    refine zb_v hd (zrunU (owner := "KeyGraph$Function") (n := 1) (rest := []) hC hd (e_f0 (hX.fn hkn) hk) rfl (c_Fun_begin0 l G ad ow (sn (si (sn (si (sn (sc Z 7 u (xn Z 9 u) (k + 1)) 9 u ((xn Z 9 u) + 1)) 8 k (nI u)) 6 k 0) 9 k 0) 5 k 0) k (hX.fn hkn) hk (xn Z 2 (k + 2))) q_429 q_431 q_442 q_430 q_12 q_443 rfl rfl rfl rfl (by decide +kernel) ⟨by decide, by decide⟩ rfl hl.1 (Nat.le_of_ble_eq_true rfl) d_KG_put_80 ⟨by decide, by decide⟩) (fun H locs hd => ?_)
    exact zfv hC hd hr hlk d_KG_put_83 (by unfold x_put x_begin; rw [show xn (x_putA Z u k) 1 k = 0 from hk]; unfold x_putA x_chkV; (repeat (first | (rw [if_pos]; rotate_left; first | assumption | decide) | (rw [if_neg]; rotate_left; first | assumption | decide))) <;> (try rfl))
  · refine lv_aload_n hx hb d_KG_put_45 rfl (lv_at hl 3 rfl) ?_
    refine zgetN hC hd (e_key hkn) rfl i_Key 7 (by decide) z_124 (Or.inl rfl) (v := .int (xi Z 4 k)) rfl d_KG_put_46 ?_
    refine lv_aload_n hx hb d_KG_put_49 rfl (lv_at hl 3 rfl) ?_
    refine zgetN hC hd (e_key hkn) rfl i_Key 6 (by decide) z_123 (Or.inl rfl) (v := .int (xi Z 3 k)) rfl d_KG_put_50 ?_
    refine lv_icmp_gt (tgt := 60) hx hb d_KG_put_53 (by decide) (fun c53 => ?_) (fun c53 => ?_)
    · refine lv_iconst (v := 0) hx hb d_KG_put_60 (by decide) ?_
      refine zputN (Z' := (si (sn (si (sn (sc Z 7 u (xn Z 9 u) (k + 1)) 9 u ((xn Z 9 u) + 1)) 8 k (nI u)) 6 k 0) 9 k 0)) (v := .int 0) hC hd (e_key hkn) rfl i_Key t_Key t_Key_ok n_Key 17 (by decide) z_137 rfl rfl (zbool (by decide)) (zboolf (by decide)) (Nat.le_of_ble_eq_true rfl) (u_checks hkn) d_KG_put_61 (fun H locs hd => ?_)
      refine lv_aload_n hx hb d_KG_put_64 rfl (lv_at hl 3 rfl) ?_
      refine lv_iconst (v := 0) hx hb d_KG_put_65 (by decide) ?_
      refine zputN (Z' := (sn (si (sn (si (sn (sc Z 7 u (xn Z 9 u) (k + 1)) 9 u ((xn Z 9 u) + 1)) 8 k (nI u)) 6 k 0) 9 k 0) 5 k 0)) (v := .int 0) hC hd (e_key hkn) rfl i_Key t_Key t_Key_ok n_Key 14 (by decide) z_133 rfl rfl rfl rfl (Nat.le_of_ble_eq_true rfl) (u_askingC hkn) d_KG_put_66 (fun H locs hd => ?_)
      refine lv_aload_n hx hb d_KG_put_69 rfl (lv_at hl 3 rfl) ?_
      refine zgetN hC hd (e_key hkn) rfl i_Key 1 (by decide) z_116 (Or.inl rfl) (v := .ref (ad 2 k)) (congrArg (fun q => some (va_rf q)) (if_neg hlf)) d_KG_put_70 ?_
      refine lv_aload_n hx hb d_KG_put_73 rfl (lv_at hl 3 rfl) ?_
      refine zgetN hC hd (e_key hkn) rfl i_Key 2 (by decide) z_118 (Or.inl rfl) (v := .ref (ad 3 (k + 2))) rfl d_KG_put_74 ?_
      refine zb_i (r := (nI (xn Z 2 (k + 2)))) hd (zrunV (n := 0) (rest := [.ref (ad 2 k)]) hC hd (e_list (hX.l hkn)) rfl (c_AL_size l G ad ow (sn (si (sn (si (sn (sc Z 7 u (xn Z 9 u) (k + 1)) 9 u ((xn Z 9 u) + 1)) 8 k (nI u)) 6 k 0) 9 k 0) 5 k 0) (k + 2) (hX.l hkn)) q_101 q_102 q_103 q_4 q_104 rfl rfl rfl (by decide +kernel) ⟨by decide, by decide⟩ rfl hl.1 (Nat.le_of_ble_eq_true rfl) d_KG_put_77 ⟨by decide, by decide⟩) (fun H locs hd => ?_)
      refine zb_v hd (zrunU (owner := "KeyGraph$Function") (n := 1) (rest := []) hC hd (e_f0 (hX.fn hkn) hk) rfl (c_Fun_begin0 l G ad ow (sn (si (sn (si (sn (sc Z 7 u (xn Z 9 u) (k + 1)) 9 u ((xn Z 9 u) + 1)) 8 k (nI u)) 6 k 0) 9 k 0) 5 k 0) k (hX.fn hkn) hk (xn Z 2 (k + 2))) q_429 q_431 q_442 q_430 q_12 q_443 rfl rfl rfl rfl (by decide +kernel) ⟨by decide, by decide⟩ rfl hl.1 (Nat.le_of_ble_eq_true rfl) d_KG_put_80 ⟨by decide, by decide⟩) (fun H locs hd => ?_)
      exact zfv hC hd hr hlk d_KG_put_83 (by unfold x_put x_begin; rw [show xn (x_putA Z u k) 1 k = 0 from hk]; unfold x_putA x_chkV; (repeat (first | (rw [if_pos]; rotate_left; first | assumption | decide) | (rw [if_neg]; rotate_left; first | assumption | decide))) <;> (try rfl))
    · refine lv_iconst (v := 1) hx hb d_KG_put_56 (by decide) ?_
      refine lv_goto (tgt := 61) hx hb d_KG_put_57 (by decide) ?_
      refine zputN (Z' := (si (sn (si (sn (sc Z 7 u (xn Z 9 u) (k + 1)) 9 u ((xn Z 9 u) + 1)) 8 k (nI u)) 6 k 0) 9 k 1)) (v := .int 1) hC hd (e_key hkn) rfl i_Key t_Key t_Key_ok n_Key 17 (by decide) z_137 rfl rfl (zbool (by decide)) (zboolf (by decide)) (Nat.le_of_ble_eq_true rfl) (u_checks hkn) d_KG_put_61 (fun H locs hd => ?_)
      refine lv_aload_n hx hb d_KG_put_64 rfl (lv_at hl 3 rfl) ?_
      refine lv_iconst (v := 0) hx hb d_KG_put_65 (by decide) ?_
      refine zputN (Z' := (sn (si (sn (si (sn (sc Z 7 u (xn Z 9 u) (k + 1)) 9 u ((xn Z 9 u) + 1)) 8 k (nI u)) 6 k 0) 9 k 1) 5 k 0)) (v := .int 0) hC hd (e_key hkn) rfl i_Key t_Key t_Key_ok n_Key 14 (by decide) z_133 rfl rfl rfl rfl (Nat.le_of_ble_eq_true rfl) (u_askingC hkn) d_KG_put_66 (fun H locs hd => ?_)
      refine lv_aload_n hx hb d_KG_put_69 rfl (lv_at hl 3 rfl) ?_
      refine zgetN hC hd (e_key hkn) rfl i_Key 1 (by decide) z_116 (Or.inl rfl) (v := .ref (ad 2 k)) (congrArg (fun q => some (va_rf q)) (if_neg hlf)) d_KG_put_70 ?_
      refine lv_aload_n hx hb d_KG_put_73 rfl (lv_at hl 3 rfl) ?_
      refine zgetN hC hd (e_key hkn) rfl i_Key 2 (by decide) z_118 (Or.inl rfl) (v := .ref (ad 3 (k + 2))) rfl d_KG_put_74 ?_
      refine zb_i (r := (nI (xn Z 2 (k + 2)))) hd (zrunV (n := 0) (rest := [.ref (ad 2 k)]) hC hd (e_list (hX.l hkn)) rfl (c_AL_size l G ad ow (sn (si (sn (si (sn (sc Z 7 u (xn Z 9 u) (k + 1)) 9 u ((xn Z 9 u) + 1)) 8 k (nI u)) 6 k 0) 9 k 1) 5 k 0) (k + 2) (hX.l hkn)) q_101 q_102 q_103 q_4 q_104 rfl rfl rfl (by decide +kernel) ⟨by decide, by decide⟩ rfl hl.1 (Nat.le_of_ble_eq_true rfl) d_KG_put_77 ⟨by decide, by decide⟩) (fun H locs hd => ?_)
      refine zb_v hd (zrunU (owner := "KeyGraph$Function") (n := 1) (rest := []) hC hd (e_f0 (hX.fn hkn) hk) rfl (c_Fun_begin0 l G ad ow (sn (si (sn (si (sn (sc Z 7 u (xn Z 9 u) (k + 1)) 9 u ((xn Z 9 u) + 1)) 8 k (nI u)) 6 k 0) 9 k 1) 5 k 0) k (hX.fn hkn) hk (xn Z 2 (k + 2))) q_429 q_431 q_442 q_430 q_12 q_443 rfl rfl rfl rfl (by decide +kernel) ⟨by decide, by decide⟩ rfl hl.1 (Nat.le_of_ble_eq_true rfl) d_KG_put_80 ⟨by decide, by decide⟩) (fun H locs hd => ?_)
      exact zfv hC hd hr hlk d_KG_put_83 (by unfold x_put x_begin; rw [show xn (x_putA Z u k) 1 k = 0 from hk]; unfold x_putA x_chkV; (repeat (first | (rw [if_pos]; rotate_left; first | assumption | decide) | (rw [if_neg]; rotate_left; first | assumption | decide))) <;> (try rfl))
set_option maxHeartbeats 4000000 in
theorem c_KG_put1 (l : Launch) (G : Gt) (ad : Nat → Nat → Nat) (ow : Nat → Nat × Nat) (Z : Zt) (hX : XS Z) (u k : Nat) (hu : u < 5) (hkn : k < xn Z 0 1) (hps : xn Z 9 u < 40) (hk : xn Z 1 k = 1) : Met l y_KG_put w_KG_put ({ frames := 2, cells := 0, slots := 0, locals := 42 }) (zPc G ad ow Z [.ref (ad 0 0), .int (nI u), .ref (ad 1 k)]) (Qd G ad ow (x_put Z u k) (none)) 0 0 (zA G) := by
  refine zopen (cc := b_KG_put) (maxL := 4) (ret := none) (by decide) rfl (Nat.le_of_ble_eq_true rfl) ?_
  intro p e s m below meth c ls hC hr hlk hnm hd hl
  have hC : Cx G p c m s _ "KeyGraph" b_KG_put 4 := hC
  have hl : lv_has ls 4 [(0, .ref (ad 0 0)), (1, .int (nI u)), (2, .ref (ad 1 k))] := hl
  have hx := hC.1
  have hb := hC.2.1
  have hlf : ¬ xn Z 1 k = 6 := by omega
  have h8 := (hX.2.2.2.1 k hkn).1
  refine lv_aload_n hx hb d_KG_put_0 rfl (lv_at hl 0 rfl) ?_
  refine zget hC hd (e_kg hX.kg) rfl i_KG 1 (by decide) q_81 (Or.inl rfl) (v := .ref (ad 8 0)) rfl d_KG_put_1 ?_
  refine lv_iload_n hx hb d_KG_put_4 rfl (lv_at hl 1 rfl) ?_
  refine zaaP (k := u) hC hd (e_piles hX.ps) (by omega) (by decide) rfl d_KG_put_5 ?_
  refine lv_astore_n (lv' := [(3, .ref (ad 6 u)), (0, .ref (ad 0 0)), (1, .int (nI u)), (2, .ref (ad 1 k))]) hx hb d_KG_put_6 rfl hl (by decide) rfl (fun ls hl => ?_)
  refine lv_aload_n hx hb d_KG_put_7 rfl (lv_at hl 0 rfl) ?_
  refine zgetN hC hd (e_pile (hX.pl hu)) rfl i_Pile 0 (by decide) z_72 (Or.inl rfl) (v := .ref (ad 7 u)) rfl d_KG_put_8 ?_
  refine lv_aload_n hx hb d_KG_put_11 rfl (lv_at hl 0 rfl) ?_
  refine zgetN hC hd (e_pile (hX.pl hu)) rfl i_Pile 1 (by decide) z_74 (Or.inl rfl) (v := .int (nI (xn Z 9 u))) rfl d_KG_put_12 ?_
  refine lv_aload_n hx hb d_KG_put_15 rfl (lv_at hl 3 rfl) ?_
  refine zasK (j := xn Z 9 u) (Z' := (sc Z 7 u (xn Z 9 u) (k + 1))) hC hd (e_pka (hX.pa hu)) (e_key hkn) (by omega) (by decide) (u_pka (hX.pa hu)) d_KG_put_16 (fun H locs hd => ?_)
  refine lv_aload_n hx hb d_KG_put_17 rfl (lv_at hl 0 rfl) ?_
  refine lv_dup hx hb d_KG_put_18 rfl ?_
  refine zgetN hC hd (e_pile (hX.pl hu)) rfl i_Pile 1 (by decide) z_74 (Or.inl rfl) (v := .int (nI (xn Z 9 u))) rfl d_KG_put_19 ?_
  refine lv_iconst (v := 1) hx hb d_KG_put_22 (by decide) ?_
  refine zaddN (x := xn Z 9 u) (y := 1) hx hb d_KG_put_23 ?_
  refine zputN (Z' := (sn (sc Z 7 u (xn Z 9 u) (k + 1)) 9 u ((xn Z 9 u) + 1))) (v := .int (nI ((xn Z 9 u) + 1))) hC hd (e_pile (hX.pl hu)) rfl i_Pile t_Pile t_Pile_ok n_Pile 1 (by decide) z_74 rfl rfl rfl rfl (Nat.le_of_ble_eq_true rfl) (u_psz (hX.pl hu)) d_KG_put_24 (fun H locs hd => ?_)
  refine lv_aload_n hx hb d_KG_put_27 rfl (lv_at hl 3 rfl) ?_
  refine lv_iload_n hx hb d_KG_put_28 rfl (lv_at hl 2 rfl) ?_
  refine zputN (Z' := (si (sn (sc Z 7 u (xn Z 9 u) (k + 1)) 9 u ((xn Z 9 u) + 1)) 8 k (nI u))) (v := .int (nI u)) hC hd (e_key hkn) rfl i_Key t_Key t_Key_ok n_Key 15 (by decide) z_135 rfl rfl rfl rfl (Nat.le_of_ble_eq_true rfl) (u_worker hkn) d_KG_put_29 (fun H locs hd => ?_)
  refine lv_aload_n hx hb d_KG_put_32 rfl (lv_at hl 3 rfl) ?_
  refine lv_iconst (v := 0) hx hb d_KG_put_33 (by decide) ?_
  refine zputN (Z' := (sn (si (sn (sc Z 7 u (xn Z 9 u) (k + 1)) 9 u ((xn Z 9 u) + 1)) 8 k (nI u)) 6 k 0)) (v := .int 0) hC hd (e_key hkn) rfl i_Key t_Key t_Key_ok n_Key 16 (by decide) z_136 rfl rfl rfl rfl (Nat.le_of_ble_eq_true rfl) (u_at hkn) d_KG_put_34 (fun H locs hd => ?_)
  refine lv_aload_n hx hb d_KG_put_37 rfl (lv_at hl 3 rfl) ?_
  refine lv_aload_n hx hb d_KG_put_38 rfl (lv_at hl 3 rfl) ?_
  refine zgetN hC hd (e_key hkn) rfl i_Key 3 (by decide) z_119 (Or.inl rfl) (v := .int (xi Z 1 k)) rfl d_KG_put_39 ?_
  refine lv_if_le (tgt := 60) hx hb d_KG_put_42 (by decide) (fun c42 => ?_) (fun c42 => ?_)
  · refine lv_iconst (v := 0) hx hb d_KG_put_60 (by decide) ?_
    refine zputN (Z' := (si (sn (si (sn (sc Z 7 u (xn Z 9 u) (k + 1)) 9 u ((xn Z 9 u) + 1)) 8 k (nI u)) 6 k 0) 9 k 0)) (v := .int 0) hC hd (e_key hkn) rfl i_Key t_Key t_Key_ok n_Key 17 (by decide) z_137 rfl rfl (zbool (by decide)) (zboolf (by decide)) (Nat.le_of_ble_eq_true rfl) (u_checks hkn) d_KG_put_61 (fun H locs hd => ?_)
    refine lv_aload_n hx hb d_KG_put_64 rfl (lv_at hl 3 rfl) ?_
    refine lv_iconst (v := 0) hx hb d_KG_put_65 (by decide) ?_
    refine zputN (Z' := (sn (si (sn (si (sn (sc Z 7 u (xn Z 9 u) (k + 1)) 9 u ((xn Z 9 u) + 1)) 8 k (nI u)) 6 k 0) 9 k 0) 5 k 0)) (v := .int 0) hC hd (e_key hkn) rfl i_Key t_Key t_Key_ok n_Key 14 (by decide) z_133 rfl rfl rfl rfl (Nat.le_of_ble_eq_true rfl) (u_askingC hkn) d_KG_put_66 (fun H locs hd => ?_)
    refine lv_aload_n hx hb d_KG_put_69 rfl (lv_at hl 3 rfl) ?_
    refine zgetN hC hd (e_key hkn) rfl i_Key 1 (by decide) z_116 (Or.inl rfl) (v := .ref (ad 2 k)) (congrArg (fun q => some (va_rf q)) (if_neg hlf)) d_KG_put_70 ?_
    refine lv_aload_n hx hb d_KG_put_73 rfl (lv_at hl 3 rfl) ?_
    refine zgetN hC hd (e_key hkn) rfl i_Key 2 (by decide) z_118 (Or.inl rfl) (v := .ref (ad 3 (k + 2))) rfl d_KG_put_74 ?_
    refine zb_i (r := (nI (xn Z 2 (k + 2)))) hd (zrunV (n := 0) (rest := [.ref (ad 2 k)]) hC hd (e_list (hX.l hkn)) rfl (c_AL_size l G ad ow (sn (si (sn (si (sn (sc Z 7 u (xn Z 9 u) (k + 1)) 9 u ((xn Z 9 u) + 1)) 8 k (nI u)) 6 k 0) 9 k 0) 5 k 0) (k + 2) (hX.l hkn)) q_101 q_102 q_103 q_4 q_104 rfl rfl rfl (by decide +kernel) ⟨by decide, by decide⟩ rfl hl.1 (Nat.le_of_ble_eq_true rfl) d_KG_put_77 ⟨by decide, by decide⟩) (fun H locs hd => ?_)
    refine zb_v hd (zrunU (owner := "KeyGraph$Function") (n := 1) (rest := []) hC hd (e_f1 (hX.fn hkn) hk) rfl (c_Fun_begin1 l G ad ow (sn (si (sn (si (sn (sc Z 7 u (xn Z 9 u) (k + 1)) 9 u ((xn Z 9 u) + 1)) 8 k (nI u)) 6 k 0) 9 k 0) 5 k 0) k (hX.fn hkn) hk (xn Z 2 (k + 2))) q_429 q_431 q_436 q_430 q_12 q_443 rfl rfl rfl rfl (by decide +kernel) ⟨by decide, by decide⟩ rfl hl.1 (Nat.le_of_ble_eq_true rfl) d_KG_put_80 ⟨by decide, by decide⟩) (fun H locs hd => ?_)
    exact zfv hC hd hr hlk d_KG_put_83 (by unfold x_put x_begin; rw [show xn (x_putA Z u k) 1 k = 1 from hk]; unfold x_putA x_chkV; (repeat (first | (rw [if_pos]; rotate_left; first | assumption | decide) | (rw [if_neg]; rotate_left; first | assumption | decide))) <;> (try rfl))
  · refine lv_aload_n hx hb d_KG_put_45 rfl (lv_at hl 3 rfl) ?_
    refine zgetN hC hd (e_key hkn) rfl i_Key 7 (by decide) z_124 (Or.inl rfl) (v := .int (xi Z 4 k)) rfl d_KG_put_46 ?_
    refine lv_aload_n hx hb d_KG_put_49 rfl (lv_at hl 3 rfl) ?_
    refine zgetN hC hd (e_key hkn) rfl i_Key 6 (by decide) z_123 (Or.inl rfl) (v := .int (xi Z 3 k)) rfl d_KG_put_50 ?_
    refine lv_icmp_gt (tgt := 60) hx hb d_KG_put_53 (by decide) (fun c53 => ?_) (fun c53 => ?_)
    · refine lv_iconst (v := 0) hx hb d_KG_put_60 (by decide) ?_
      refine zputN (Z' := (si (sn (si (sn (sc Z 7 u (xn Z 9 u) (k + 1)) 9 u ((xn Z 9 u) + 1)) 8 k (nI u)) 6 k 0) 9 k 0)) (v := .int 0) hC hd (e_key hkn) rfl i_Key t_Key t_Key_ok n_Key 17 (by decide) z_137 rfl rfl (zbool (by decide)) (zboolf (by decide)) (Nat.le_of_ble_eq_true rfl) (u_checks hkn) d_KG_put_61 (fun H locs hd => ?_)
      refine lv_aload_n hx hb d_KG_put_64 rfl (lv_at hl 3 rfl) ?_
      refine lv_iconst (v := 0) hx hb d_KG_put_65 (by decide) ?_
      refine zputN (Z' := (sn (si (sn (si (sn (sc Z 7 u (xn Z 9 u) (k + 1)) 9 u ((xn Z 9 u) + 1)) 8 k (nI u)) 6 k 0) 9 k 0) 5 k 0)) (v := .int 0) hC hd (e_key hkn) rfl i_Key t_Key t_Key_ok n_Key 14 (by decide) z_133 rfl rfl rfl rfl (Nat.le_of_ble_eq_true rfl) (u_askingC hkn) d_KG_put_66 (fun H locs hd => ?_)
      refine lv_aload_n hx hb d_KG_put_69 rfl (lv_at hl 3 rfl) ?_
      refine zgetN hC hd (e_key hkn) rfl i_Key 1 (by decide) z_116 (Or.inl rfl) (v := .ref (ad 2 k)) (congrArg (fun q => some (va_rf q)) (if_neg hlf)) d_KG_put_70 ?_
      refine lv_aload_n hx hb d_KG_put_73 rfl (lv_at hl 3 rfl) ?_
      refine zgetN hC hd (e_key hkn) rfl i_Key 2 (by decide) z_118 (Or.inl rfl) (v := .ref (ad 3 (k + 2))) rfl d_KG_put_74 ?_
      refine zb_i (r := (nI (xn Z 2 (k + 2)))) hd (zrunV (n := 0) (rest := [.ref (ad 2 k)]) hC hd (e_list (hX.l hkn)) rfl (c_AL_size l G ad ow (sn (si (sn (si (sn (sc Z 7 u (xn Z 9 u) (k + 1)) 9 u ((xn Z 9 u) + 1)) 8 k (nI u)) 6 k 0) 9 k 0) 5 k 0) (k + 2) (hX.l hkn)) q_101 q_102 q_103 q_4 q_104 rfl rfl rfl (by decide +kernel) ⟨by decide, by decide⟩ rfl hl.1 (Nat.le_of_ble_eq_true rfl) d_KG_put_77 ⟨by decide, by decide⟩) (fun H locs hd => ?_)
      refine zb_v hd (zrunU (owner := "KeyGraph$Function") (n := 1) (rest := []) hC hd (e_f1 (hX.fn hkn) hk) rfl (c_Fun_begin1 l G ad ow (sn (si (sn (si (sn (sc Z 7 u (xn Z 9 u) (k + 1)) 9 u ((xn Z 9 u) + 1)) 8 k (nI u)) 6 k 0) 9 k 0) 5 k 0) k (hX.fn hkn) hk (xn Z 2 (k + 2))) q_429 q_431 q_436 q_430 q_12 q_443 rfl rfl rfl rfl (by decide +kernel) ⟨by decide, by decide⟩ rfl hl.1 (Nat.le_of_ble_eq_true rfl) d_KG_put_80 ⟨by decide, by decide⟩) (fun H locs hd => ?_)
      exact zfv hC hd hr hlk d_KG_put_83 (by unfold x_put x_begin; rw [show xn (x_putA Z u k) 1 k = 1 from hk]; unfold x_putA x_chkV; (repeat (first | (rw [if_pos]; rotate_left; first | assumption | decide) | (rw [if_neg]; rotate_left; first | assumption | decide))) <;> (try rfl))
    · refine lv_iconst (v := 1) hx hb d_KG_put_56 (by decide) ?_
      refine lv_goto (tgt := 61) hx hb d_KG_put_57 (by decide) ?_
      refine zputN (Z' := (si (sn (si (sn (sc Z 7 u (xn Z 9 u) (k + 1)) 9 u ((xn Z 9 u) + 1)) 8 k (nI u)) 6 k 0) 9 k 1)) (v := .int 1) hC hd (e_key hkn) rfl i_Key t_Key t_Key_ok n_Key 17 (by decide) z_137 rfl rfl (zbool (by decide)) (zboolf (by decide)) (Nat.le_of_ble_eq_true rfl) (u_checks hkn) d_KG_put_61 (fun H locs hd => ?_)
      refine lv_aload_n hx hb d_KG_put_64 rfl (lv_at hl 3 rfl) ?_
      refine lv_iconst (v := 0) hx hb d_KG_put_65 (by decide) ?_
      refine zputN (Z' := (sn (si (sn (si (sn (sc Z 7 u (xn Z 9 u) (k + 1)) 9 u ((xn Z 9 u) + 1)) 8 k (nI u)) 6 k 0) 9 k 1) 5 k 0)) (v := .int 0) hC hd (e_key hkn) rfl i_Key t_Key t_Key_ok n_Key 14 (by decide) z_133 rfl rfl rfl rfl (Nat.le_of_ble_eq_true rfl) (u_askingC hkn) d_KG_put_66 (fun H locs hd => ?_)
      refine lv_aload_n hx hb d_KG_put_69 rfl (lv_at hl 3 rfl) ?_
      refine zgetN hC hd (e_key hkn) rfl i_Key 1 (by decide) z_116 (Or.inl rfl) (v := .ref (ad 2 k)) (congrArg (fun q => some (va_rf q)) (if_neg hlf)) d_KG_put_70 ?_
      refine lv_aload_n hx hb d_KG_put_73 rfl (lv_at hl 3 rfl) ?_
      refine zgetN hC hd (e_key hkn) rfl i_Key 2 (by decide) z_118 (Or.inl rfl) (v := .ref (ad 3 (k + 2))) rfl d_KG_put_74 ?_
      refine zb_i (r := (nI (xn Z 2 (k + 2)))) hd (zrunV (n := 0) (rest := [.ref (ad 2 k)]) hC hd (e_list (hX.l hkn)) rfl (c_AL_size l G ad ow (sn (si (sn (si (sn (sc Z 7 u (xn Z 9 u) (k + 1)) 9 u ((xn Z 9 u) + 1)) 8 k (nI u)) 6 k 0) 9 k 1) 5 k 0) (k + 2) (hX.l hkn)) q_101 q_102 q_103 q_4 q_104 rfl rfl rfl (by decide +kernel) ⟨by decide, by decide⟩ rfl hl.1 (Nat.le_of_ble_eq_true rfl) d_KG_put_77 ⟨by decide, by decide⟩) (fun H locs hd => ?_)
      refine zb_v hd (zrunU (owner := "KeyGraph$Function") (n := 1) (rest := []) hC hd (e_f1 (hX.fn hkn) hk) rfl (c_Fun_begin1 l G ad ow (sn (si (sn (si (sn (sc Z 7 u (xn Z 9 u) (k + 1)) 9 u ((xn Z 9 u) + 1)) 8 k (nI u)) 6 k 0) 9 k 1) 5 k 0) k (hX.fn hkn) hk (xn Z 2 (k + 2))) q_429 q_431 q_436 q_430 q_12 q_443 rfl rfl rfl rfl (by decide +kernel) ⟨by decide, by decide⟩ rfl hl.1 (Nat.le_of_ble_eq_true rfl) d_KG_put_80 ⟨by decide, by decide⟩) (fun H locs hd => ?_)
      exact zfv hC hd hr hlk d_KG_put_83 (by unfold x_put x_begin; rw [show xn (x_putA Z u k) 1 k = 1 from hk]; unfold x_putA x_chkV; (repeat (first | (rw [if_pos]; rotate_left; first | assumption | decide) | (rw [if_neg]; rotate_left; first | assumption | decide))) <;> (try rfl))
set_option maxHeartbeats 4000000 in
theorem c_KG_put2 (l : Launch) (G : Gt) (ad : Nat → Nat → Nat) (ow : Nat → Nat × Nat) (Z : Zt) (hX : XS Z) (u k : Nat) (hu : u < 5) (hkn : k < xn Z 0 1) (hps : xn Z 9 u < 40) (hk : xn Z 1 k = 2) : Met l y_KG_put w_KG_put ({ frames := 2, cells := 0, slots := 0, locals := 42 }) (zPc G ad ow Z [.ref (ad 0 0), .int (nI u), .ref (ad 1 k)]) (Qd G ad ow (x_put Z u k) (none)) 0 0 (zA G) := by
  refine zopen (cc := b_KG_put) (maxL := 4) (ret := none) (by decide) rfl (Nat.le_of_ble_eq_true rfl) ?_
  intro p e s m below meth c ls hC hr hlk hnm hd hl
  have hC : Cx G p c m s _ "KeyGraph" b_KG_put 4 := hC
  have hl : lv_has ls 4 [(0, .ref (ad 0 0)), (1, .int (nI u)), (2, .ref (ad 1 k))] := hl
  have hx := hC.1
  have hb := hC.2.1
  have hlf : ¬ xn Z 1 k = 6 := by omega
  have h8 := (hX.2.2.2.1 k hkn).1
  refine lv_aload_n hx hb d_KG_put_0 rfl (lv_at hl 0 rfl) ?_
  refine zget hC hd (e_kg hX.kg) rfl i_KG 1 (by decide) q_81 (Or.inl rfl) (v := .ref (ad 8 0)) rfl d_KG_put_1 ?_
  refine lv_iload_n hx hb d_KG_put_4 rfl (lv_at hl 1 rfl) ?_
  refine zaaP (k := u) hC hd (e_piles hX.ps) (by omega) (by decide) rfl d_KG_put_5 ?_
  refine lv_astore_n (lv' := [(3, .ref (ad 6 u)), (0, .ref (ad 0 0)), (1, .int (nI u)), (2, .ref (ad 1 k))]) hx hb d_KG_put_6 rfl hl (by decide) rfl (fun ls hl => ?_)
  refine lv_aload_n hx hb d_KG_put_7 rfl (lv_at hl 0 rfl) ?_
  refine zgetN hC hd (e_pile (hX.pl hu)) rfl i_Pile 0 (by decide) z_72 (Or.inl rfl) (v := .ref (ad 7 u)) rfl d_KG_put_8 ?_
  refine lv_aload_n hx hb d_KG_put_11 rfl (lv_at hl 0 rfl) ?_
  refine zgetN hC hd (e_pile (hX.pl hu)) rfl i_Pile 1 (by decide) z_74 (Or.inl rfl) (v := .int (nI (xn Z 9 u))) rfl d_KG_put_12 ?_
  refine lv_aload_n hx hb d_KG_put_15 rfl (lv_at hl 3 rfl) ?_
  refine zasK (j := xn Z 9 u) (Z' := (sc Z 7 u (xn Z 9 u) (k + 1))) hC hd (e_pka (hX.pa hu)) (e_key hkn) (by omega) (by decide) (u_pka (hX.pa hu)) d_KG_put_16 (fun H locs hd => ?_)
  refine lv_aload_n hx hb d_KG_put_17 rfl (lv_at hl 0 rfl) ?_
  refine lv_dup hx hb d_KG_put_18 rfl ?_
  refine zgetN hC hd (e_pile (hX.pl hu)) rfl i_Pile 1 (by decide) z_74 (Or.inl rfl) (v := .int (nI (xn Z 9 u))) rfl d_KG_put_19 ?_
  refine lv_iconst (v := 1) hx hb d_KG_put_22 (by decide) ?_
  refine zaddN (x := xn Z 9 u) (y := 1) hx hb d_KG_put_23 ?_
  refine zputN (Z' := (sn (sc Z 7 u (xn Z 9 u) (k + 1)) 9 u ((xn Z 9 u) + 1))) (v := .int (nI ((xn Z 9 u) + 1))) hC hd (e_pile (hX.pl hu)) rfl i_Pile t_Pile t_Pile_ok n_Pile 1 (by decide) z_74 rfl rfl rfl rfl (Nat.le_of_ble_eq_true rfl) (u_psz (hX.pl hu)) d_KG_put_24 (fun H locs hd => ?_)
  refine lv_aload_n hx hb d_KG_put_27 rfl (lv_at hl 3 rfl) ?_
  refine lv_iload_n hx hb d_KG_put_28 rfl (lv_at hl 2 rfl) ?_
  refine zputN (Z' := (si (sn (sc Z 7 u (xn Z 9 u) (k + 1)) 9 u ((xn Z 9 u) + 1)) 8 k (nI u))) (v := .int (nI u)) hC hd (e_key hkn) rfl i_Key t_Key t_Key_ok n_Key 15 (by decide) z_135 rfl rfl rfl rfl (Nat.le_of_ble_eq_true rfl) (u_worker hkn) d_KG_put_29 (fun H locs hd => ?_)
  refine lv_aload_n hx hb d_KG_put_32 rfl (lv_at hl 3 rfl) ?_
  refine lv_iconst (v := 0) hx hb d_KG_put_33 (by decide) ?_
  refine zputN (Z' := (sn (si (sn (sc Z 7 u (xn Z 9 u) (k + 1)) 9 u ((xn Z 9 u) + 1)) 8 k (nI u)) 6 k 0)) (v := .int 0) hC hd (e_key hkn) rfl i_Key t_Key t_Key_ok n_Key 16 (by decide) z_136 rfl rfl rfl rfl (Nat.le_of_ble_eq_true rfl) (u_at hkn) d_KG_put_34 (fun H locs hd => ?_)
  refine lv_aload_n hx hb d_KG_put_37 rfl (lv_at hl 3 rfl) ?_
  refine lv_aload_n hx hb d_KG_put_38 rfl (lv_at hl 3 rfl) ?_
  refine zgetN hC hd (e_key hkn) rfl i_Key 3 (by decide) z_119 (Or.inl rfl) (v := .int (xi Z 1 k)) rfl d_KG_put_39 ?_
  refine lv_if_le (tgt := 60) hx hb d_KG_put_42 (by decide) (fun c42 => ?_) (fun c42 => ?_)
  · refine lv_iconst (v := 0) hx hb d_KG_put_60 (by decide) ?_
    refine zputN (Z' := (si (sn (si (sn (sc Z 7 u (xn Z 9 u) (k + 1)) 9 u ((xn Z 9 u) + 1)) 8 k (nI u)) 6 k 0) 9 k 0)) (v := .int 0) hC hd (e_key hkn) rfl i_Key t_Key t_Key_ok n_Key 17 (by decide) z_137 rfl rfl (zbool (by decide)) (zboolf (by decide)) (Nat.le_of_ble_eq_true rfl) (u_checks hkn) d_KG_put_61 (fun H locs hd => ?_)
    refine lv_aload_n hx hb d_KG_put_64 rfl (lv_at hl 3 rfl) ?_
    refine lv_iconst (v := 0) hx hb d_KG_put_65 (by decide) ?_
    refine zputN (Z' := (sn (si (sn (si (sn (sc Z 7 u (xn Z 9 u) (k + 1)) 9 u ((xn Z 9 u) + 1)) 8 k (nI u)) 6 k 0) 9 k 0) 5 k 0)) (v := .int 0) hC hd (e_key hkn) rfl i_Key t_Key t_Key_ok n_Key 14 (by decide) z_133 rfl rfl rfl rfl (Nat.le_of_ble_eq_true rfl) (u_askingC hkn) d_KG_put_66 (fun H locs hd => ?_)
    refine lv_aload_n hx hb d_KG_put_69 rfl (lv_at hl 3 rfl) ?_
    refine zgetN hC hd (e_key hkn) rfl i_Key 1 (by decide) z_116 (Or.inl rfl) (v := .ref (ad 2 k)) (congrArg (fun q => some (va_rf q)) (if_neg hlf)) d_KG_put_70 ?_
    refine lv_aload_n hx hb d_KG_put_73 rfl (lv_at hl 3 rfl) ?_
    refine zgetN hC hd (e_key hkn) rfl i_Key 2 (by decide) z_118 (Or.inl rfl) (v := .ref (ad 3 (k + 2))) rfl d_KG_put_74 ?_
    refine zb_i (r := (nI (xn Z 2 (k + 2)))) hd (zrunV (n := 0) (rest := [.ref (ad 2 k)]) hC hd (e_list (hX.l hkn)) rfl (c_AL_size l G ad ow (sn (si (sn (si (sn (sc Z 7 u (xn Z 9 u) (k + 1)) 9 u ((xn Z 9 u) + 1)) 8 k (nI u)) 6 k 0) 9 k 0) 5 k 0) (k + 2) (hX.l hkn)) q_101 q_102 q_103 q_4 q_104 rfl rfl rfl (by decide +kernel) ⟨by decide, by decide⟩ rfl hl.1 (Nat.le_of_ble_eq_true rfl) d_KG_put_77 ⟨by decide, by decide⟩) (fun H locs hd => ?_)
    refine zb_v hd (zrunO (owner := "KeyGraph$Function") (n := 1) (rest := []) hC hd (e_f2 (hX.fn hkn) hk) rfl (c_Choice_begin l G ad ow (sn (si (sn (si (sn (sc Z 7 u (xn Z 9 u) (k + 1)) 9 u ((xn Z 9 u) + 1)) 8 k (nI u)) 6 k 0) 9 k 0) 5 k 0) k (hX.fn hkn) hk (xn Z 2 (k + 2))) q_429 q_431 q_430 q_432 q_433 q_15 q_434 q_443 rfl rfl rfl (by decide +kernel) ⟨by decide, by decide⟩ rfl hl.1 (Nat.le_of_ble_eq_true rfl) d_KG_put_80 ⟨by decide, by decide⟩) (fun H locs hd => ?_)
    exact zfv hC hd hr hlk d_KG_put_83 (by unfold x_put x_putA x_chkV; (repeat (first | (rw [if_pos]; rotate_left; first | assumption | decide) | (rw [if_neg]; rotate_left; first | assumption | decide))) <;> (try rfl))
  · refine lv_aload_n hx hb d_KG_put_45 rfl (lv_at hl 3 rfl) ?_
    refine zgetN hC hd (e_key hkn) rfl i_Key 7 (by decide) z_124 (Or.inl rfl) (v := .int (xi Z 4 k)) rfl d_KG_put_46 ?_
    refine lv_aload_n hx hb d_KG_put_49 rfl (lv_at hl 3 rfl) ?_
    refine zgetN hC hd (e_key hkn) rfl i_Key 6 (by decide) z_123 (Or.inl rfl) (v := .int (xi Z 3 k)) rfl d_KG_put_50 ?_
    refine lv_icmp_gt (tgt := 60) hx hb d_KG_put_53 (by decide) (fun c53 => ?_) (fun c53 => ?_)
    · refine lv_iconst (v := 0) hx hb d_KG_put_60 (by decide) ?_
      refine zputN (Z' := (si (sn (si (sn (sc Z 7 u (xn Z 9 u) (k + 1)) 9 u ((xn Z 9 u) + 1)) 8 k (nI u)) 6 k 0) 9 k 0)) (v := .int 0) hC hd (e_key hkn) rfl i_Key t_Key t_Key_ok n_Key 17 (by decide) z_137 rfl rfl (zbool (by decide)) (zboolf (by decide)) (Nat.le_of_ble_eq_true rfl) (u_checks hkn) d_KG_put_61 (fun H locs hd => ?_)
      refine lv_aload_n hx hb d_KG_put_64 rfl (lv_at hl 3 rfl) ?_
      refine lv_iconst (v := 0) hx hb d_KG_put_65 (by decide) ?_
      refine zputN (Z' := (sn (si (sn (si (sn (sc Z 7 u (xn Z 9 u) (k + 1)) 9 u ((xn Z 9 u) + 1)) 8 k (nI u)) 6 k 0) 9 k 0) 5 k 0)) (v := .int 0) hC hd (e_key hkn) rfl i_Key t_Key t_Key_ok n_Key 14 (by decide) z_133 rfl rfl rfl rfl (Nat.le_of_ble_eq_true rfl) (u_askingC hkn) d_KG_put_66 (fun H locs hd => ?_)
      refine lv_aload_n hx hb d_KG_put_69 rfl (lv_at hl 3 rfl) ?_
      refine zgetN hC hd (e_key hkn) rfl i_Key 1 (by decide) z_116 (Or.inl rfl) (v := .ref (ad 2 k)) (congrArg (fun q => some (va_rf q)) (if_neg hlf)) d_KG_put_70 ?_
      refine lv_aload_n hx hb d_KG_put_73 rfl (lv_at hl 3 rfl) ?_
      refine zgetN hC hd (e_key hkn) rfl i_Key 2 (by decide) z_118 (Or.inl rfl) (v := .ref (ad 3 (k + 2))) rfl d_KG_put_74 ?_
      refine zb_i (r := (nI (xn Z 2 (k + 2)))) hd (zrunV (n := 0) (rest := [.ref (ad 2 k)]) hC hd (e_list (hX.l hkn)) rfl (c_AL_size l G ad ow (sn (si (sn (si (sn (sc Z 7 u (xn Z 9 u) (k + 1)) 9 u ((xn Z 9 u) + 1)) 8 k (nI u)) 6 k 0) 9 k 0) 5 k 0) (k + 2) (hX.l hkn)) q_101 q_102 q_103 q_4 q_104 rfl rfl rfl (by decide +kernel) ⟨by decide, by decide⟩ rfl hl.1 (Nat.le_of_ble_eq_true rfl) d_KG_put_77 ⟨by decide, by decide⟩) (fun H locs hd => ?_)
      refine zb_v hd (zrunO (owner := "KeyGraph$Function") (n := 1) (rest := []) hC hd (e_f2 (hX.fn hkn) hk) rfl (c_Choice_begin l G ad ow (sn (si (sn (si (sn (sc Z 7 u (xn Z 9 u) (k + 1)) 9 u ((xn Z 9 u) + 1)) 8 k (nI u)) 6 k 0) 9 k 0) 5 k 0) k (hX.fn hkn) hk (xn Z 2 (k + 2))) q_429 q_431 q_430 q_432 q_433 q_15 q_434 q_443 rfl rfl rfl (by decide +kernel) ⟨by decide, by decide⟩ rfl hl.1 (Nat.le_of_ble_eq_true rfl) d_KG_put_80 ⟨by decide, by decide⟩) (fun H locs hd => ?_)
      exact zfv hC hd hr hlk d_KG_put_83 (by unfold x_put x_putA x_chkV; (repeat (first | (rw [if_pos]; rotate_left; first | assumption | decide) | (rw [if_neg]; rotate_left; first | assumption | decide))) <;> (try rfl))
    · refine lv_iconst (v := 1) hx hb d_KG_put_56 (by decide) ?_
      refine lv_goto (tgt := 61) hx hb d_KG_put_57 (by decide) ?_
      refine zputN (Z' := (si (sn (si (sn (sc Z 7 u (xn Z 9 u) (k + 1)) 9 u ((xn Z 9 u) + 1)) 8 k (nI u)) 6 k 0) 9 k 1)) (v := .int 1) hC hd (e_key hkn) rfl i_Key t_Key t_Key_ok n_Key 17 (by decide) z_137 rfl rfl (zbool (by decide)) (zboolf (by decide)) (Nat.le_of_ble_eq_true rfl) (u_checks hkn) d_KG_put_61 (fun H locs hd => ?_)
      refine lv_aload_n hx hb d_KG_put_64 rfl (lv_at hl 3 rfl) ?_
      refine lv_iconst (v := 0) hx hb d_KG_put_65 (by decide) ?_
      refine zputN (Z' := (sn (si (sn (si (sn (sc Z 7 u (xn Z 9 u) (k + 1)) 9 u ((xn Z 9 u) + 1)) 8 k (nI u)) 6 k 0) 9 k 1) 5 k 0)) (v := .int 0) hC hd (e_key hkn) rfl i_Key t_Key t_Key_ok n_Key 14 (by decide) z_133 rfl rfl rfl rfl (Nat.le_of_ble_eq_true rfl) (u_askingC hkn) d_KG_put_66 (fun H locs hd => ?_)
      refine lv_aload_n hx hb d_KG_put_69 rfl (lv_at hl 3 rfl) ?_
      refine zgetN hC hd (e_key hkn) rfl i_Key 1 (by decide) z_116 (Or.inl rfl) (v := .ref (ad 2 k)) (congrArg (fun q => some (va_rf q)) (if_neg hlf)) d_KG_put_70 ?_
      refine lv_aload_n hx hb d_KG_put_73 rfl (lv_at hl 3 rfl) ?_
      refine zgetN hC hd (e_key hkn) rfl i_Key 2 (by decide) z_118 (Or.inl rfl) (v := .ref (ad 3 (k + 2))) rfl d_KG_put_74 ?_
      refine zb_i (r := (nI (xn Z 2 (k + 2)))) hd (zrunV (n := 0) (rest := [.ref (ad 2 k)]) hC hd (e_list (hX.l hkn)) rfl (c_AL_size l G ad ow (sn (si (sn (si (sn (sc Z 7 u (xn Z 9 u) (k + 1)) 9 u ((xn Z 9 u) + 1)) 8 k (nI u)) 6 k 0) 9 k 1) 5 k 0) (k + 2) (hX.l hkn)) q_101 q_102 q_103 q_4 q_104 rfl rfl rfl (by decide +kernel) ⟨by decide, by decide⟩ rfl hl.1 (Nat.le_of_ble_eq_true rfl) d_KG_put_77 ⟨by decide, by decide⟩) (fun H locs hd => ?_)
      refine zb_v hd (zrunO (owner := "KeyGraph$Function") (n := 1) (rest := []) hC hd (e_f2 (hX.fn hkn) hk) rfl (c_Choice_begin l G ad ow (sn (si (sn (si (sn (sc Z 7 u (xn Z 9 u) (k + 1)) 9 u ((xn Z 9 u) + 1)) 8 k (nI u)) 6 k 0) 9 k 1) 5 k 0) k (hX.fn hkn) hk (xn Z 2 (k + 2))) q_429 q_431 q_430 q_432 q_433 q_15 q_434 q_443 rfl rfl rfl (by decide +kernel) ⟨by decide, by decide⟩ rfl hl.1 (Nat.le_of_ble_eq_true rfl) d_KG_put_80 ⟨by decide, by decide⟩) (fun H locs hd => ?_)
      exact zfv hC hd hr hlk d_KG_put_83 (by unfold x_put x_putA x_chkV; (repeat (first | (rw [if_pos]; rotate_left; first | assumption | decide) | (rw [if_neg]; rotate_left; first | assumption | decide))) <;> (try rfl))
set_option maxHeartbeats 4000000 in
theorem c_KG_put3 (l : Launch) (G : Gt) (ad : Nat → Nat → Nat) (ow : Nat → Nat × Nat) (Z : Zt) (hX : XS Z) (u k : Nat) (hu : u < 5) (hkn : k < xn Z 0 1) (hps : xn Z 9 u < 40) (hk : xn Z 1 k = 3) : Met l y_KG_put w_KG_put ({ frames := 2, cells := 0, slots := 0, locals := 42 }) (zPc G ad ow Z [.ref (ad 0 0), .int (nI u), .ref (ad 1 k)]) (Qd G ad ow (x_put Z u k) (none)) 0 0 (zA G) := by
  refine zopen (cc := b_KG_put) (maxL := 4) (ret := none) (by decide) rfl (Nat.le_of_ble_eq_true rfl) ?_
  intro p e s m below meth c ls hC hr hlk hnm hd hl
  have hC : Cx G p c m s _ "KeyGraph" b_KG_put 4 := hC
  have hl : lv_has ls 4 [(0, .ref (ad 0 0)), (1, .int (nI u)), (2, .ref (ad 1 k))] := hl
  have hx := hC.1
  have hb := hC.2.1
  have hlf : ¬ xn Z 1 k = 6 := by omega
  have h8 := (hX.2.2.2.1 k hkn).1
  refine lv_aload_n hx hb d_KG_put_0 rfl (lv_at hl 0 rfl) ?_
  refine zget hC hd (e_kg hX.kg) rfl i_KG 1 (by decide) q_81 (Or.inl rfl) (v := .ref (ad 8 0)) rfl d_KG_put_1 ?_
  refine lv_iload_n hx hb d_KG_put_4 rfl (lv_at hl 1 rfl) ?_
  refine zaaP (k := u) hC hd (e_piles hX.ps) (by omega) (by decide) rfl d_KG_put_5 ?_
  refine lv_astore_n (lv' := [(3, .ref (ad 6 u)), (0, .ref (ad 0 0)), (1, .int (nI u)), (2, .ref (ad 1 k))]) hx hb d_KG_put_6 rfl hl (by decide) rfl (fun ls hl => ?_)
  refine lv_aload_n hx hb d_KG_put_7 rfl (lv_at hl 0 rfl) ?_
  refine zgetN hC hd (e_pile (hX.pl hu)) rfl i_Pile 0 (by decide) z_72 (Or.inl rfl) (v := .ref (ad 7 u)) rfl d_KG_put_8 ?_
  refine lv_aload_n hx hb d_KG_put_11 rfl (lv_at hl 0 rfl) ?_
  refine zgetN hC hd (e_pile (hX.pl hu)) rfl i_Pile 1 (by decide) z_74 (Or.inl rfl) (v := .int (nI (xn Z 9 u))) rfl d_KG_put_12 ?_
  refine lv_aload_n hx hb d_KG_put_15 rfl (lv_at hl 3 rfl) ?_
  refine zasK (j := xn Z 9 u) (Z' := (sc Z 7 u (xn Z 9 u) (k + 1))) hC hd (e_pka (hX.pa hu)) (e_key hkn) (by omega) (by decide) (u_pka (hX.pa hu)) d_KG_put_16 (fun H locs hd => ?_)
  refine lv_aload_n hx hb d_KG_put_17 rfl (lv_at hl 0 rfl) ?_
  refine lv_dup hx hb d_KG_put_18 rfl ?_
  refine zgetN hC hd (e_pile (hX.pl hu)) rfl i_Pile 1 (by decide) z_74 (Or.inl rfl) (v := .int (nI (xn Z 9 u))) rfl d_KG_put_19 ?_
  refine lv_iconst (v := 1) hx hb d_KG_put_22 (by decide) ?_
  refine zaddN (x := xn Z 9 u) (y := 1) hx hb d_KG_put_23 ?_
  refine zputN (Z' := (sn (sc Z 7 u (xn Z 9 u) (k + 1)) 9 u ((xn Z 9 u) + 1))) (v := .int (nI ((xn Z 9 u) + 1))) hC hd (e_pile (hX.pl hu)) rfl i_Pile t_Pile t_Pile_ok n_Pile 1 (by decide) z_74 rfl rfl rfl rfl (Nat.le_of_ble_eq_true rfl) (u_psz (hX.pl hu)) d_KG_put_24 (fun H locs hd => ?_)
  refine lv_aload_n hx hb d_KG_put_27 rfl (lv_at hl 3 rfl) ?_
  refine lv_iload_n hx hb d_KG_put_28 rfl (lv_at hl 2 rfl) ?_
  refine zputN (Z' := (si (sn (sc Z 7 u (xn Z 9 u) (k + 1)) 9 u ((xn Z 9 u) + 1)) 8 k (nI u))) (v := .int (nI u)) hC hd (e_key hkn) rfl i_Key t_Key t_Key_ok n_Key 15 (by decide) z_135 rfl rfl rfl rfl (Nat.le_of_ble_eq_true rfl) (u_worker hkn) d_KG_put_29 (fun H locs hd => ?_)
  refine lv_aload_n hx hb d_KG_put_32 rfl (lv_at hl 3 rfl) ?_
  refine lv_iconst (v := 0) hx hb d_KG_put_33 (by decide) ?_
  refine zputN (Z' := (sn (si (sn (sc Z 7 u (xn Z 9 u) (k + 1)) 9 u ((xn Z 9 u) + 1)) 8 k (nI u)) 6 k 0)) (v := .int 0) hC hd (e_key hkn) rfl i_Key t_Key t_Key_ok n_Key 16 (by decide) z_136 rfl rfl rfl rfl (Nat.le_of_ble_eq_true rfl) (u_at hkn) d_KG_put_34 (fun H locs hd => ?_)
  refine lv_aload_n hx hb d_KG_put_37 rfl (lv_at hl 3 rfl) ?_
  refine lv_aload_n hx hb d_KG_put_38 rfl (lv_at hl 3 rfl) ?_
  refine zgetN hC hd (e_key hkn) rfl i_Key 3 (by decide) z_119 (Or.inl rfl) (v := .int (xi Z 1 k)) rfl d_KG_put_39 ?_
  refine lv_if_le (tgt := 60) hx hb d_KG_put_42 (by decide) (fun c42 => ?_) (fun c42 => ?_)
  · refine lv_iconst (v := 0) hx hb d_KG_put_60 (by decide) ?_
    refine zputN (Z' := (si (sn (si (sn (sc Z 7 u (xn Z 9 u) (k + 1)) 9 u ((xn Z 9 u) + 1)) 8 k (nI u)) 6 k 0) 9 k 0)) (v := .int 0) hC hd (e_key hkn) rfl i_Key t_Key t_Key_ok n_Key 17 (by decide) z_137 rfl rfl (zbool (by decide)) (zboolf (by decide)) (Nat.le_of_ble_eq_true rfl) (u_checks hkn) d_KG_put_61 (fun H locs hd => ?_)
    refine lv_aload_n hx hb d_KG_put_64 rfl (lv_at hl 3 rfl) ?_
    refine lv_iconst (v := 0) hx hb d_KG_put_65 (by decide) ?_
    refine zputN (Z' := (sn (si (sn (si (sn (sc Z 7 u (xn Z 9 u) (k + 1)) 9 u ((xn Z 9 u) + 1)) 8 k (nI u)) 6 k 0) 9 k 0) 5 k 0)) (v := .int 0) hC hd (e_key hkn) rfl i_Key t_Key t_Key_ok n_Key 14 (by decide) z_133 rfl rfl rfl rfl (Nat.le_of_ble_eq_true rfl) (u_askingC hkn) d_KG_put_66 (fun H locs hd => ?_)
    refine lv_aload_n hx hb d_KG_put_69 rfl (lv_at hl 3 rfl) ?_
    refine zgetN hC hd (e_key hkn) rfl i_Key 1 (by decide) z_116 (Or.inl rfl) (v := .ref (ad 2 k)) (congrArg (fun q => some (va_rf q)) (if_neg hlf)) d_KG_put_70 ?_
    refine lv_aload_n hx hb d_KG_put_73 rfl (lv_at hl 3 rfl) ?_
    refine zgetN hC hd (e_key hkn) rfl i_Key 2 (by decide) z_118 (Or.inl rfl) (v := .ref (ad 3 (k + 2))) rfl d_KG_put_74 ?_
    refine zb_i (r := (nI (xn Z 2 (k + 2)))) hd (zrunV (n := 0) (rest := [.ref (ad 2 k)]) hC hd (e_list (hX.l hkn)) rfl (c_AL_size l G ad ow (sn (si (sn (si (sn (sc Z 7 u (xn Z 9 u) (k + 1)) 9 u ((xn Z 9 u) + 1)) 8 k (nI u)) 6 k 0) 9 k 0) 5 k 0) (k + 2) (hX.l hkn)) q_101 q_102 q_103 q_4 q_104 rfl rfl rfl (by decide +kernel) ⟨by decide, by decide⟩ rfl hl.1 (Nat.le_of_ble_eq_true rfl) d_KG_put_77 ⟨by decide, by decide⟩) (fun H locs hd => ?_)
    refine zb_v hd (zrunU (owner := "KeyGraph$Function") (n := 1) (rest := []) hC hd (e_f3 (hX.fn hkn) hk) rfl (c_Fun_begin3 l G ad ow (sn (si (sn (si (sn (sc Z 7 u (xn Z 9 u) (k + 1)) 9 u ((xn Z 9 u) + 1)) 8 k (nI u)) 6 k 0) 9 k 0) 5 k 0) k (hX.fn hkn) hk (xn Z 2 (k + 2))) q_429 q_431 q_441 q_430 q_12 q_443 rfl rfl rfl rfl (by decide +kernel) ⟨by decide, by decide⟩ rfl hl.1 (Nat.le_of_ble_eq_true rfl) d_KG_put_80 ⟨by decide, by decide⟩) (fun H locs hd => ?_)
    exact zfv hC hd hr hlk d_KG_put_83 (by unfold x_put x_begin; rw [show xn (x_putA Z u k) 1 k = 3 from hk]; unfold x_putA x_chkV; (repeat (first | (rw [if_pos]; rotate_left; first | assumption | decide) | (rw [if_neg]; rotate_left; first | assumption | decide))) <;> (try rfl))
  · refine lv_aload_n hx hb d_KG_put_45 rfl (lv_at hl 3 rfl) ?_
    refine zgetN hC hd (e_key hkn) rfl i_Key 7 (by decide) z_124 (Or.inl rfl) (v := .int (xi Z 4 k)) rfl d_KG_put_46 ?_
    refine lv_aload_n hx hb d_KG_put_49 rfl (lv_at hl 3 rfl) ?_
    refine zgetN hC hd (e_key hkn) rfl i_Key 6 (by decide) z_123 (Or.inl rfl) (v := .int (xi Z 3 k)) rfl d_KG_put_50 ?_
    refine lv_icmp_gt (tgt := 60) hx hb d_KG_put_53 (by decide) (fun c53 => ?_) (fun c53 => ?_)
    · refine lv_iconst (v := 0) hx hb d_KG_put_60 (by decide) ?_
      refine zputN (Z' := (si (sn (si (sn (sc Z 7 u (xn Z 9 u) (k + 1)) 9 u ((xn Z 9 u) + 1)) 8 k (nI u)) 6 k 0) 9 k 0)) (v := .int 0) hC hd (e_key hkn) rfl i_Key t_Key t_Key_ok n_Key 17 (by decide) z_137 rfl rfl (zbool (by decide)) (zboolf (by decide)) (Nat.le_of_ble_eq_true rfl) (u_checks hkn) d_KG_put_61 (fun H locs hd => ?_)
      refine lv_aload_n hx hb d_KG_put_64 rfl (lv_at hl 3 rfl) ?_
      refine lv_iconst (v := 0) hx hb d_KG_put_65 (by decide) ?_
      refine zputN (Z' := (sn (si (sn (si (sn (sc Z 7 u (xn Z 9 u) (k + 1)) 9 u ((xn Z 9 u) + 1)) 8 k (nI u)) 6 k 0) 9 k 0) 5 k 0)) (v := .int 0) hC hd (e_key hkn) rfl i_Key t_Key t_Key_ok n_Key 14 (by decide) z_133 rfl rfl rfl rfl (Nat.le_of_ble_eq_true rfl) (u_askingC hkn) d_KG_put_66 (fun H locs hd => ?_)
      refine lv_aload_n hx hb d_KG_put_69 rfl (lv_at hl 3 rfl) ?_
      refine zgetN hC hd (e_key hkn) rfl i_Key 1 (by decide) z_116 (Or.inl rfl) (v := .ref (ad 2 k)) (congrArg (fun q => some (va_rf q)) (if_neg hlf)) d_KG_put_70 ?_
      refine lv_aload_n hx hb d_KG_put_73 rfl (lv_at hl 3 rfl) ?_
      refine zgetN hC hd (e_key hkn) rfl i_Key 2 (by decide) z_118 (Or.inl rfl) (v := .ref (ad 3 (k + 2))) rfl d_KG_put_74 ?_
      refine zb_i (r := (nI (xn Z 2 (k + 2)))) hd (zrunV (n := 0) (rest := [.ref (ad 2 k)]) hC hd (e_list (hX.l hkn)) rfl (c_AL_size l G ad ow (sn (si (sn (si (sn (sc Z 7 u (xn Z 9 u) (k + 1)) 9 u ((xn Z 9 u) + 1)) 8 k (nI u)) 6 k 0) 9 k 0) 5 k 0) (k + 2) (hX.l hkn)) q_101 q_102 q_103 q_4 q_104 rfl rfl rfl (by decide +kernel) ⟨by decide, by decide⟩ rfl hl.1 (Nat.le_of_ble_eq_true rfl) d_KG_put_77 ⟨by decide, by decide⟩) (fun H locs hd => ?_)
      refine zb_v hd (zrunU (owner := "KeyGraph$Function") (n := 1) (rest := []) hC hd (e_f3 (hX.fn hkn) hk) rfl (c_Fun_begin3 l G ad ow (sn (si (sn (si (sn (sc Z 7 u (xn Z 9 u) (k + 1)) 9 u ((xn Z 9 u) + 1)) 8 k (nI u)) 6 k 0) 9 k 0) 5 k 0) k (hX.fn hkn) hk (xn Z 2 (k + 2))) q_429 q_431 q_441 q_430 q_12 q_443 rfl rfl rfl rfl (by decide +kernel) ⟨by decide, by decide⟩ rfl hl.1 (Nat.le_of_ble_eq_true rfl) d_KG_put_80 ⟨by decide, by decide⟩) (fun H locs hd => ?_)
      exact zfv hC hd hr hlk d_KG_put_83 (by unfold x_put x_begin; rw [show xn (x_putA Z u k) 1 k = 3 from hk]; unfold x_putA x_chkV; (repeat (first | (rw [if_pos]; rotate_left; first | assumption | decide) | (rw [if_neg]; rotate_left; first | assumption | decide))) <;> (try rfl))
    · refine lv_iconst (v := 1) hx hb d_KG_put_56 (by decide) ?_
      refine lv_goto (tgt := 61) hx hb d_KG_put_57 (by decide) ?_
      refine zputN (Z' := (si (sn (si (sn (sc Z 7 u (xn Z 9 u) (k + 1)) 9 u ((xn Z 9 u) + 1)) 8 k (nI u)) 6 k 0) 9 k 1)) (v := .int 1) hC hd (e_key hkn) rfl i_Key t_Key t_Key_ok n_Key 17 (by decide) z_137 rfl rfl (zbool (by decide)) (zboolf (by decide)) (Nat.le_of_ble_eq_true rfl) (u_checks hkn) d_KG_put_61 (fun H locs hd => ?_)
      refine lv_aload_n hx hb d_KG_put_64 rfl (lv_at hl 3 rfl) ?_
      refine lv_iconst (v := 0) hx hb d_KG_put_65 (by decide) ?_
      refine zputN (Z' := (sn (si (sn (si (sn (sc Z 7 u (xn Z 9 u) (k + 1)) 9 u ((xn Z 9 u) + 1)) 8 k (nI u)) 6 k 0) 9 k 1) 5 k 0)) (v := .int 0) hC hd (e_key hkn) rfl i_Key t_Key t_Key_ok n_Key 14 (by decide) z_133 rfl rfl rfl rfl (Nat.le_of_ble_eq_true rfl) (u_askingC hkn) d_KG_put_66 (fun H locs hd => ?_)
      refine lv_aload_n hx hb d_KG_put_69 rfl (lv_at hl 3 rfl) ?_
      refine zgetN hC hd (e_key hkn) rfl i_Key 1 (by decide) z_116 (Or.inl rfl) (v := .ref (ad 2 k)) (congrArg (fun q => some (va_rf q)) (if_neg hlf)) d_KG_put_70 ?_
      refine lv_aload_n hx hb d_KG_put_73 rfl (lv_at hl 3 rfl) ?_
      refine zgetN hC hd (e_key hkn) rfl i_Key 2 (by decide) z_118 (Or.inl rfl) (v := .ref (ad 3 (k + 2))) rfl d_KG_put_74 ?_
      refine zb_i (r := (nI (xn Z 2 (k + 2)))) hd (zrunV (n := 0) (rest := [.ref (ad 2 k)]) hC hd (e_list (hX.l hkn)) rfl (c_AL_size l G ad ow (sn (si (sn (si (sn (sc Z 7 u (xn Z 9 u) (k + 1)) 9 u ((xn Z 9 u) + 1)) 8 k (nI u)) 6 k 0) 9 k 1) 5 k 0) (k + 2) (hX.l hkn)) q_101 q_102 q_103 q_4 q_104 rfl rfl rfl (by decide +kernel) ⟨by decide, by decide⟩ rfl hl.1 (Nat.le_of_ble_eq_true rfl) d_KG_put_77 ⟨by decide, by decide⟩) (fun H locs hd => ?_)
      refine zb_v hd (zrunU (owner := "KeyGraph$Function") (n := 1) (rest := []) hC hd (e_f3 (hX.fn hkn) hk) rfl (c_Fun_begin3 l G ad ow (sn (si (sn (si (sn (sc Z 7 u (xn Z 9 u) (k + 1)) 9 u ((xn Z 9 u) + 1)) 8 k (nI u)) 6 k 0) 9 k 1) 5 k 0) k (hX.fn hkn) hk (xn Z 2 (k + 2))) q_429 q_431 q_441 q_430 q_12 q_443 rfl rfl rfl rfl (by decide +kernel) ⟨by decide, by decide⟩ rfl hl.1 (Nat.le_of_ble_eq_true rfl) d_KG_put_80 ⟨by decide, by decide⟩) (fun H locs hd => ?_)
      exact zfv hC hd hr hlk d_KG_put_83 (by unfold x_put x_begin; rw [show xn (x_putA Z u k) 1 k = 3 from hk]; unfold x_putA x_chkV; (repeat (first | (rw [if_pos]; rotate_left; first | assumption | decide) | (rw [if_neg]; rotate_left; first | assumption | decide))) <;> (try rfl))
set_option maxHeartbeats 4000000 in
theorem c_KG_put4 (l : Launch) (G : Gt) (ad : Nat → Nat → Nat) (ow : Nat → Nat × Nat) (Z : Zt) (hX : XS Z) (u k : Nat) (hu : u < 5) (hkn : k < xn Z 0 1) (hps : xn Z 9 u < 40) (hk : xn Z 1 k = 4) : Met l y_KG_put w_KG_put ({ frames := 2, cells := 0, slots := 0, locals := 42 }) (zPc G ad ow Z [.ref (ad 0 0), .int (nI u), .ref (ad 1 k)]) (Qd G ad ow (x_put Z u k) (none)) 0 0 (zA G) := by
  refine zopen (cc := b_KG_put) (maxL := 4) (ret := none) (by decide) rfl (Nat.le_of_ble_eq_true rfl) ?_
  intro p e s m below meth c ls hC hr hlk hnm hd hl
  have hC : Cx G p c m s _ "KeyGraph" b_KG_put 4 := hC
  have hl : lv_has ls 4 [(0, .ref (ad 0 0)), (1, .int (nI u)), (2, .ref (ad 1 k))] := hl
  have hx := hC.1
  have hb := hC.2.1
  have hlf : ¬ xn Z 1 k = 6 := by omega
  have h8 := (hX.2.2.2.1 k hkn).1
  refine lv_aload_n hx hb d_KG_put_0 rfl (lv_at hl 0 rfl) ?_
  refine zget hC hd (e_kg hX.kg) rfl i_KG 1 (by decide) q_81 (Or.inl rfl) (v := .ref (ad 8 0)) rfl d_KG_put_1 ?_
  refine lv_iload_n hx hb d_KG_put_4 rfl (lv_at hl 1 rfl) ?_
  refine zaaP (k := u) hC hd (e_piles hX.ps) (by omega) (by decide) rfl d_KG_put_5 ?_
  refine lv_astore_n (lv' := [(3, .ref (ad 6 u)), (0, .ref (ad 0 0)), (1, .int (nI u)), (2, .ref (ad 1 k))]) hx hb d_KG_put_6 rfl hl (by decide) rfl (fun ls hl => ?_)
  refine lv_aload_n hx hb d_KG_put_7 rfl (lv_at hl 0 rfl) ?_
  refine zgetN hC hd (e_pile (hX.pl hu)) rfl i_Pile 0 (by decide) z_72 (Or.inl rfl) (v := .ref (ad 7 u)) rfl d_KG_put_8 ?_
  refine lv_aload_n hx hb d_KG_put_11 rfl (lv_at hl 0 rfl) ?_
  refine zgetN hC hd (e_pile (hX.pl hu)) rfl i_Pile 1 (by decide) z_74 (Or.inl rfl) (v := .int (nI (xn Z 9 u))) rfl d_KG_put_12 ?_
  refine lv_aload_n hx hb d_KG_put_15 rfl (lv_at hl 3 rfl) ?_
  refine zasK (j := xn Z 9 u) (Z' := (sc Z 7 u (xn Z 9 u) (k + 1))) hC hd (e_pka (hX.pa hu)) (e_key hkn) (by omega) (by decide) (u_pka (hX.pa hu)) d_KG_put_16 (fun H locs hd => ?_)
  refine lv_aload_n hx hb d_KG_put_17 rfl (lv_at hl 0 rfl) ?_
  refine lv_dup hx hb d_KG_put_18 rfl ?_
  refine zgetN hC hd (e_pile (hX.pl hu)) rfl i_Pile 1 (by decide) z_74 (Or.inl rfl) (v := .int (nI (xn Z 9 u))) rfl d_KG_put_19 ?_
  refine lv_iconst (v := 1) hx hb d_KG_put_22 (by decide) ?_
  refine zaddN (x := xn Z 9 u) (y := 1) hx hb d_KG_put_23 ?_
  refine zputN (Z' := (sn (sc Z 7 u (xn Z 9 u) (k + 1)) 9 u ((xn Z 9 u) + 1))) (v := .int (nI ((xn Z 9 u) + 1))) hC hd (e_pile (hX.pl hu)) rfl i_Pile t_Pile t_Pile_ok n_Pile 1 (by decide) z_74 rfl rfl rfl rfl (Nat.le_of_ble_eq_true rfl) (u_psz (hX.pl hu)) d_KG_put_24 (fun H locs hd => ?_)
  refine lv_aload_n hx hb d_KG_put_27 rfl (lv_at hl 3 rfl) ?_
  refine lv_iload_n hx hb d_KG_put_28 rfl (lv_at hl 2 rfl) ?_
  refine zputN (Z' := (si (sn (sc Z 7 u (xn Z 9 u) (k + 1)) 9 u ((xn Z 9 u) + 1)) 8 k (nI u))) (v := .int (nI u)) hC hd (e_key hkn) rfl i_Key t_Key t_Key_ok n_Key 15 (by decide) z_135 rfl rfl rfl rfl (Nat.le_of_ble_eq_true rfl) (u_worker hkn) d_KG_put_29 (fun H locs hd => ?_)
  refine lv_aload_n hx hb d_KG_put_32 rfl (lv_at hl 3 rfl) ?_
  refine lv_iconst (v := 0) hx hb d_KG_put_33 (by decide) ?_
  refine zputN (Z' := (sn (si (sn (sc Z 7 u (xn Z 9 u) (k + 1)) 9 u ((xn Z 9 u) + 1)) 8 k (nI u)) 6 k 0)) (v := .int 0) hC hd (e_key hkn) rfl i_Key t_Key t_Key_ok n_Key 16 (by decide) z_136 rfl rfl rfl rfl (Nat.le_of_ble_eq_true rfl) (u_at hkn) d_KG_put_34 (fun H locs hd => ?_)
  refine lv_aload_n hx hb d_KG_put_37 rfl (lv_at hl 3 rfl) ?_
  refine lv_aload_n hx hb d_KG_put_38 rfl (lv_at hl 3 rfl) ?_
  refine zgetN hC hd (e_key hkn) rfl i_Key 3 (by decide) z_119 (Or.inl rfl) (v := .int (xi Z 1 k)) rfl d_KG_put_39 ?_
  refine lv_if_le (tgt := 60) hx hb d_KG_put_42 (by decide) (fun c42 => ?_) (fun c42 => ?_)
  · refine lv_iconst (v := 0) hx hb d_KG_put_60 (by decide) ?_
    refine zputN (Z' := (si (sn (si (sn (sc Z 7 u (xn Z 9 u) (k + 1)) 9 u ((xn Z 9 u) + 1)) 8 k (nI u)) 6 k 0) 9 k 0)) (v := .int 0) hC hd (e_key hkn) rfl i_Key t_Key t_Key_ok n_Key 17 (by decide) z_137 rfl rfl (zbool (by decide)) (zboolf (by decide)) (Nat.le_of_ble_eq_true rfl) (u_checks hkn) d_KG_put_61 (fun H locs hd => ?_)
    refine lv_aload_n hx hb d_KG_put_64 rfl (lv_at hl 3 rfl) ?_
    refine lv_iconst (v := 0) hx hb d_KG_put_65 (by decide) ?_
    refine zputN (Z' := (sn (si (sn (si (sn (sc Z 7 u (xn Z 9 u) (k + 1)) 9 u ((xn Z 9 u) + 1)) 8 k (nI u)) 6 k 0) 9 k 0) 5 k 0)) (v := .int 0) hC hd (e_key hkn) rfl i_Key t_Key t_Key_ok n_Key 14 (by decide) z_133 rfl rfl rfl rfl (Nat.le_of_ble_eq_true rfl) (u_askingC hkn) d_KG_put_66 (fun H locs hd => ?_)
    refine lv_aload_n hx hb d_KG_put_69 rfl (lv_at hl 3 rfl) ?_
    refine zgetN hC hd (e_key hkn) rfl i_Key 1 (by decide) z_116 (Or.inl rfl) (v := .ref (ad 2 k)) (congrArg (fun q => some (va_rf q)) (if_neg hlf)) d_KG_put_70 ?_
    refine lv_aload_n hx hb d_KG_put_73 rfl (lv_at hl 3 rfl) ?_
    refine zgetN hC hd (e_key hkn) rfl i_Key 2 (by decide) z_118 (Or.inl rfl) (v := .ref (ad 3 (k + 2))) rfl d_KG_put_74 ?_
    refine zb_i (r := (nI (xn Z 2 (k + 2)))) hd (zrunV (n := 0) (rest := [.ref (ad 2 k)]) hC hd (e_list (hX.l hkn)) rfl (c_AL_size l G ad ow (sn (si (sn (si (sn (sc Z 7 u (xn Z 9 u) (k + 1)) 9 u ((xn Z 9 u) + 1)) 8 k (nI u)) 6 k 0) 9 k 0) 5 k 0) (k + 2) (hX.l hkn)) q_101 q_102 q_103 q_4 q_104 rfl rfl rfl (by decide +kernel) ⟨by decide, by decide⟩ rfl hl.1 (Nat.le_of_ble_eq_true rfl) d_KG_put_77 ⟨by decide, by decide⟩) (fun H locs hd => ?_)
    refine zb_v hd (zrunU (owner := "KeyGraph$Function") (n := 1) (rest := []) hC hd (e_f4 (hX.fn hkn) hk) rfl (c_Fun_begin4 l G ad ow (sn (si (sn (si (sn (sc Z 7 u (xn Z 9 u) (k + 1)) 9 u ((xn Z 9 u) + 1)) 8 k (nI u)) 6 k 0) 9 k 0) 5 k 0) k (hX.fn hkn) hk (xn Z 2 (k + 2))) q_429 q_431 q_442 q_430 q_12 q_443 rfl rfl rfl rfl (by decide +kernel) ⟨by decide, by decide⟩ rfl hl.1 (Nat.le_of_ble_eq_true rfl) d_KG_put_80 ⟨by decide, by decide⟩) (fun H locs hd => ?_)
    exact zfv hC hd hr hlk d_KG_put_83 (by unfold x_put x_begin; rw [show xn (x_putA Z u k) 1 k = 4 from hk]; unfold x_putA x_chkV; (repeat (first | (rw [if_pos]; rotate_left; first | assumption | decide) | (rw [if_neg]; rotate_left; first | assumption | decide))) <;> (try rfl))
  · refine lv_aload_n hx hb d_KG_put_45 rfl (lv_at hl 3 rfl) ?_
    refine zgetN hC hd (e_key hkn) rfl i_Key 7 (by decide) z_124 (Or.inl rfl) (v := .int (xi Z 4 k)) rfl d_KG_put_46 ?_
    refine lv_aload_n hx hb d_KG_put_49 rfl (lv_at hl 3 rfl) ?_
    refine zgetN hC hd (e_key hkn) rfl i_Key 6 (by decide) z_123 (Or.inl rfl) (v := .int (xi Z 3 k)) rfl d_KG_put_50 ?_
    refine lv_icmp_gt (tgt := 60) hx hb d_KG_put_53 (by decide) (fun c53 => ?_) (fun c53 => ?_)
    · refine lv_iconst (v := 0) hx hb d_KG_put_60 (by decide) ?_
      refine zputN (Z' := (si (sn (si (sn (sc Z 7 u (xn Z 9 u) (k + 1)) 9 u ((xn Z 9 u) + 1)) 8 k (nI u)) 6 k 0) 9 k 0)) (v := .int 0) hC hd (e_key hkn) rfl i_Key t_Key t_Key_ok n_Key 17 (by decide) z_137 rfl rfl (zbool (by decide)) (zboolf (by decide)) (Nat.le_of_ble_eq_true rfl) (u_checks hkn) d_KG_put_61 (fun H locs hd => ?_)
      refine lv_aload_n hx hb d_KG_put_64 rfl (lv_at hl 3 rfl) ?_
      refine lv_iconst (v := 0) hx hb d_KG_put_65 (by decide) ?_
      refine zputN (Z' := (sn (si (sn (si (sn (sc Z 7 u (xn Z 9 u) (k + 1)) 9 u ((xn Z 9 u) + 1)) 8 k (nI u)) 6 k 0) 9 k 0) 5 k 0)) (v := .int 0) hC hd (e_key hkn) rfl i_Key t_Key t_Key_ok n_Key 14 (by decide) z_133 rfl rfl rfl rfl (Nat.le_of_ble_eq_true rfl) (u_askingC hkn) d_KG_put_66 (fun H locs hd => ?_)
      refine lv_aload_n hx hb d_KG_put_69 rfl (lv_at hl 3 rfl) ?_
      refine zgetN hC hd (e_key hkn) rfl i_Key 1 (by decide) z_116 (Or.inl rfl) (v := .ref (ad 2 k)) (congrArg (fun q => some (va_rf q)) (if_neg hlf)) d_KG_put_70 ?_
      refine lv_aload_n hx hb d_KG_put_73 rfl (lv_at hl 3 rfl) ?_
      refine zgetN hC hd (e_key hkn) rfl i_Key 2 (by decide) z_118 (Or.inl rfl) (v := .ref (ad 3 (k + 2))) rfl d_KG_put_74 ?_
      refine zb_i (r := (nI (xn Z 2 (k + 2)))) hd (zrunV (n := 0) (rest := [.ref (ad 2 k)]) hC hd (e_list (hX.l hkn)) rfl (c_AL_size l G ad ow (sn (si (sn (si (sn (sc Z 7 u (xn Z 9 u) (k + 1)) 9 u ((xn Z 9 u) + 1)) 8 k (nI u)) 6 k 0) 9 k 0) 5 k 0) (k + 2) (hX.l hkn)) q_101 q_102 q_103 q_4 q_104 rfl rfl rfl (by decide +kernel) ⟨by decide, by decide⟩ rfl hl.1 (Nat.le_of_ble_eq_true rfl) d_KG_put_77 ⟨by decide, by decide⟩) (fun H locs hd => ?_)
      refine zb_v hd (zrunU (owner := "KeyGraph$Function") (n := 1) (rest := []) hC hd (e_f4 (hX.fn hkn) hk) rfl (c_Fun_begin4 l G ad ow (sn (si (sn (si (sn (sc Z 7 u (xn Z 9 u) (k + 1)) 9 u ((xn Z 9 u) + 1)) 8 k (nI u)) 6 k 0) 9 k 0) 5 k 0) k (hX.fn hkn) hk (xn Z 2 (k + 2))) q_429 q_431 q_442 q_430 q_12 q_443 rfl rfl rfl rfl (by decide +kernel) ⟨by decide, by decide⟩ rfl hl.1 (Nat.le_of_ble_eq_true rfl) d_KG_put_80 ⟨by decide, by decide⟩) (fun H locs hd => ?_)
      exact zfv hC hd hr hlk d_KG_put_83 (by unfold x_put x_begin; rw [show xn (x_putA Z u k) 1 k = 4 from hk]; unfold x_putA x_chkV; (repeat (first | (rw [if_pos]; rotate_left; first | assumption | decide) | (rw [if_neg]; rotate_left; first | assumption | decide))) <;> (try rfl))
    · refine lv_iconst (v := 1) hx hb d_KG_put_56 (by decide) ?_
      refine lv_goto (tgt := 61) hx hb d_KG_put_57 (by decide) ?_
      refine zputN (Z' := (si (sn (si (sn (sc Z 7 u (xn Z 9 u) (k + 1)) 9 u ((xn Z 9 u) + 1)) 8 k (nI u)) 6 k 0) 9 k 1)) (v := .int 1) hC hd (e_key hkn) rfl i_Key t_Key t_Key_ok n_Key 17 (by decide) z_137 rfl rfl (zbool (by decide)) (zboolf (by decide)) (Nat.le_of_ble_eq_true rfl) (u_checks hkn) d_KG_put_61 (fun H locs hd => ?_)
      refine lv_aload_n hx hb d_KG_put_64 rfl (lv_at hl 3 rfl) ?_
      refine lv_iconst (v := 0) hx hb d_KG_put_65 (by decide) ?_
      refine zputN (Z' := (sn (si (sn (si (sn (sc Z 7 u (xn Z 9 u) (k + 1)) 9 u ((xn Z 9 u) + 1)) 8 k (nI u)) 6 k 0) 9 k 1) 5 k 0)) (v := .int 0) hC hd (e_key hkn) rfl i_Key t_Key t_Key_ok n_Key 14 (by decide) z_133 rfl rfl rfl rfl (Nat.le_of_ble_eq_true rfl) (u_askingC hkn) d_KG_put_66 (fun H locs hd => ?_)
      refine lv_aload_n hx hb d_KG_put_69 rfl (lv_at hl 3 rfl) ?_
      refine zgetN hC hd (e_key hkn) rfl i_Key 1 (by decide) z_116 (Or.inl rfl) (v := .ref (ad 2 k)) (congrArg (fun q => some (va_rf q)) (if_neg hlf)) d_KG_put_70 ?_
      refine lv_aload_n hx hb d_KG_put_73 rfl (lv_at hl 3 rfl) ?_
      refine zgetN hC hd (e_key hkn) rfl i_Key 2 (by decide) z_118 (Or.inl rfl) (v := .ref (ad 3 (k + 2))) rfl d_KG_put_74 ?_
      refine zb_i (r := (nI (xn Z 2 (k + 2)))) hd (zrunV (n := 0) (rest := [.ref (ad 2 k)]) hC hd (e_list (hX.l hkn)) rfl (c_AL_size l G ad ow (sn (si (sn (si (sn (sc Z 7 u (xn Z 9 u) (k + 1)) 9 u ((xn Z 9 u) + 1)) 8 k (nI u)) 6 k 0) 9 k 1) 5 k 0) (k + 2) (hX.l hkn)) q_101 q_102 q_103 q_4 q_104 rfl rfl rfl (by decide +kernel) ⟨by decide, by decide⟩ rfl hl.1 (Nat.le_of_ble_eq_true rfl) d_KG_put_77 ⟨by decide, by decide⟩) (fun H locs hd => ?_)
      refine zb_v hd (zrunU (owner := "KeyGraph$Function") (n := 1) (rest := []) hC hd (e_f4 (hX.fn hkn) hk) rfl (c_Fun_begin4 l G ad ow (sn (si (sn (si (sn (sc Z 7 u (xn Z 9 u) (k + 1)) 9 u ((xn Z 9 u) + 1)) 8 k (nI u)) 6 k 0) 9 k 1) 5 k 0) k (hX.fn hkn) hk (xn Z 2 (k + 2))) q_429 q_431 q_442 q_430 q_12 q_443 rfl rfl rfl rfl (by decide +kernel) ⟨by decide, by decide⟩ rfl hl.1 (Nat.le_of_ble_eq_true rfl) d_KG_put_80 ⟨by decide, by decide⟩) (fun H locs hd => ?_)
      exact zfv hC hd hr hlk d_KG_put_83 (by unfold x_put x_begin; rw [show xn (x_putA Z u k) 1 k = 4 from hk]; unfold x_putA x_chkV; (repeat (first | (rw [if_pos]; rotate_left; first | assumption | decide) | (rw [if_neg]; rotate_left; first | assumption | decide))) <;> (try rfl))
set_option maxHeartbeats 4000000 in
theorem c_KG_put5 (l : Launch) (G : Gt) (ad : Nat → Nat → Nat) (ow : Nat → Nat × Nat) (Z : Zt) (hX : XS Z) (u k : Nat) (hu : u < 5) (hkn : k < xn Z 0 1) (hps : xn Z 9 u < 40) (hk : xn Z 1 k = 5) : Met l y_KG_put w_KG_put ({ frames := 2, cells := 0, slots := 0, locals := 42 }) (zPc G ad ow Z [.ref (ad 0 0), .int (nI u), .ref (ad 1 k)]) (Qd G ad ow (x_put Z u k) (none)) 0 0 (zA G) := by
  refine zopen (cc := b_KG_put) (maxL := 4) (ret := none) (by decide) rfl (Nat.le_of_ble_eq_true rfl) ?_
  intro p e s m below meth c ls hC hr hlk hnm hd hl
  have hC : Cx G p c m s _ "KeyGraph" b_KG_put 4 := hC
  have hl : lv_has ls 4 [(0, .ref (ad 0 0)), (1, .int (nI u)), (2, .ref (ad 1 k))] := hl
  have hx := hC.1
  have hb := hC.2.1
  have hlf : ¬ xn Z 1 k = 6 := by omega
  have h8 := (hX.2.2.2.1 k hkn).1
  refine lv_aload_n hx hb d_KG_put_0 rfl (lv_at hl 0 rfl) ?_
  refine zget hC hd (e_kg hX.kg) rfl i_KG 1 (by decide) q_81 (Or.inl rfl) (v := .ref (ad 8 0)) rfl d_KG_put_1 ?_
  refine lv_iload_n hx hb d_KG_put_4 rfl (lv_at hl 1 rfl) ?_
  refine zaaP (k := u) hC hd (e_piles hX.ps) (by omega) (by decide) rfl d_KG_put_5 ?_
  refine lv_astore_n (lv' := [(3, .ref (ad 6 u)), (0, .ref (ad 0 0)), (1, .int (nI u)), (2, .ref (ad 1 k))]) hx hb d_KG_put_6 rfl hl (by decide) rfl (fun ls hl => ?_)
  refine lv_aload_n hx hb d_KG_put_7 rfl (lv_at hl 0 rfl) ?_
  refine zgetN hC hd (e_pile (hX.pl hu)) rfl i_Pile 0 (by decide) z_72 (Or.inl rfl) (v := .ref (ad 7 u)) rfl d_KG_put_8 ?_
  refine lv_aload_n hx hb d_KG_put_11 rfl (lv_at hl 0 rfl) ?_
  refine zgetN hC hd (e_pile (hX.pl hu)) rfl i_Pile 1 (by decide) z_74 (Or.inl rfl) (v := .int (nI (xn Z 9 u))) rfl d_KG_put_12 ?_
  refine lv_aload_n hx hb d_KG_put_15 rfl (lv_at hl 3 rfl) ?_
  refine zasK (j := xn Z 9 u) (Z' := (sc Z 7 u (xn Z 9 u) (k + 1))) hC hd (e_pka (hX.pa hu)) (e_key hkn) (by omega) (by decide) (u_pka (hX.pa hu)) d_KG_put_16 (fun H locs hd => ?_)
  refine lv_aload_n hx hb d_KG_put_17 rfl (lv_at hl 0 rfl) ?_
  refine lv_dup hx hb d_KG_put_18 rfl ?_
  refine zgetN hC hd (e_pile (hX.pl hu)) rfl i_Pile 1 (by decide) z_74 (Or.inl rfl) (v := .int (nI (xn Z 9 u))) rfl d_KG_put_19 ?_
  refine lv_iconst (v := 1) hx hb d_KG_put_22 (by decide) ?_
  refine zaddN (x := xn Z 9 u) (y := 1) hx hb d_KG_put_23 ?_
  refine zputN (Z' := (sn (sc Z 7 u (xn Z 9 u) (k + 1)) 9 u ((xn Z 9 u) + 1))) (v := .int (nI ((xn Z 9 u) + 1))) hC hd (e_pile (hX.pl hu)) rfl i_Pile t_Pile t_Pile_ok n_Pile 1 (by decide) z_74 rfl rfl rfl rfl (Nat.le_of_ble_eq_true rfl) (u_psz (hX.pl hu)) d_KG_put_24 (fun H locs hd => ?_)
  refine lv_aload_n hx hb d_KG_put_27 rfl (lv_at hl 3 rfl) ?_
  refine lv_iload_n hx hb d_KG_put_28 rfl (lv_at hl 2 rfl) ?_
  refine zputN (Z' := (si (sn (sc Z 7 u (xn Z 9 u) (k + 1)) 9 u ((xn Z 9 u) + 1)) 8 k (nI u))) (v := .int (nI u)) hC hd (e_key hkn) rfl i_Key t_Key t_Key_ok n_Key 15 (by decide) z_135 rfl rfl rfl rfl (Nat.le_of_ble_eq_true rfl) (u_worker hkn) d_KG_put_29 (fun H locs hd => ?_)
  refine lv_aload_n hx hb d_KG_put_32 rfl (lv_at hl 3 rfl) ?_
  refine lv_iconst (v := 0) hx hb d_KG_put_33 (by decide) ?_
  refine zputN (Z' := (sn (si (sn (sc Z 7 u (xn Z 9 u) (k + 1)) 9 u ((xn Z 9 u) + 1)) 8 k (nI u)) 6 k 0)) (v := .int 0) hC hd (e_key hkn) rfl i_Key t_Key t_Key_ok n_Key 16 (by decide) z_136 rfl rfl rfl rfl (Nat.le_of_ble_eq_true rfl) (u_at hkn) d_KG_put_34 (fun H locs hd => ?_)
  refine lv_aload_n hx hb d_KG_put_37 rfl (lv_at hl 3 rfl) ?_
  refine lv_aload_n hx hb d_KG_put_38 rfl (lv_at hl 3 rfl) ?_
  refine zgetN hC hd (e_key hkn) rfl i_Key 3 (by decide) z_119 (Or.inl rfl) (v := .int (xi Z 1 k)) rfl d_KG_put_39 ?_
  refine lv_if_le (tgt := 60) hx hb d_KG_put_42 (by decide) (fun c42 => ?_) (fun c42 => ?_)
  · refine lv_iconst (v := 0) hx hb d_KG_put_60 (by decide) ?_
    refine zputN (Z' := (si (sn (si (sn (sc Z 7 u (xn Z 9 u) (k + 1)) 9 u ((xn Z 9 u) + 1)) 8 k (nI u)) 6 k 0) 9 k 0)) (v := .int 0) hC hd (e_key hkn) rfl i_Key t_Key t_Key_ok n_Key 17 (by decide) z_137 rfl rfl (zbool (by decide)) (zboolf (by decide)) (Nat.le_of_ble_eq_true rfl) (u_checks hkn) d_KG_put_61 (fun H locs hd => ?_)
    refine lv_aload_n hx hb d_KG_put_64 rfl (lv_at hl 3 rfl) ?_
    refine lv_iconst (v := 0) hx hb d_KG_put_65 (by decide) ?_
    refine zputN (Z' := (sn (si (sn (si (sn (sc Z 7 u (xn Z 9 u) (k + 1)) 9 u ((xn Z 9 u) + 1)) 8 k (nI u)) 6 k 0) 9 k 0) 5 k 0)) (v := .int 0) hC hd (e_key hkn) rfl i_Key t_Key t_Key_ok n_Key 14 (by decide) z_133 rfl rfl rfl rfl (Nat.le_of_ble_eq_true rfl) (u_askingC hkn) d_KG_put_66 (fun H locs hd => ?_)
    refine lv_aload_n hx hb d_KG_put_69 rfl (lv_at hl 3 rfl) ?_
    refine zgetN hC hd (e_key hkn) rfl i_Key 1 (by decide) z_116 (Or.inl rfl) (v := .ref (ad 2 k)) (congrArg (fun q => some (va_rf q)) (if_neg hlf)) d_KG_put_70 ?_
    refine lv_aload_n hx hb d_KG_put_73 rfl (lv_at hl 3 rfl) ?_
    refine zgetN hC hd (e_key hkn) rfl i_Key 2 (by decide) z_118 (Or.inl rfl) (v := .ref (ad 3 (k + 2))) rfl d_KG_put_74 ?_
    refine zb_i (r := (nI (xn Z 2 (k + 2)))) hd (zrunV (n := 0) (rest := [.ref (ad 2 k)]) hC hd (e_list (hX.l hkn)) rfl (c_AL_size l G ad ow (sn (si (sn (si (sn (sc Z 7 u (xn Z 9 u) (k + 1)) 9 u ((xn Z 9 u) + 1)) 8 k (nI u)) 6 k 0) 9 k 0) 5 k 0) (k + 2) (hX.l hkn)) q_101 q_102 q_103 q_4 q_104 rfl rfl rfl (by decide +kernel) ⟨by decide, by decide⟩ rfl hl.1 (Nat.le_of_ble_eq_true rfl) d_KG_put_77 ⟨by decide, by decide⟩) (fun H locs hd => ?_)
    refine zb_v hd (zrunO (owner := "KeyGraph$Function") (n := 1) (rest := []) hC hd (e_f5 (hX.fn hkn) hk) rfl (c_Great_begin l G ad ow (sn (si (sn (si (sn (sc Z 7 u (xn Z 9 u) (k + 1)) 9 u ((xn Z 9 u) + 1)) 8 k (nI u)) 6 k 0) 9 k 0) 5 k 0) k (hX.fn hkn) hk (xn Z 2 (k + 2)) (by omega)) q_429 q_431 q_430 q_437 q_438 q_17 q_439 q_443 rfl rfl rfl (by decide +kernel) ⟨by decide, by decide⟩ rfl hl.1 (Nat.le_of_ble_eq_true rfl) d_KG_put_80 ⟨by decide, by decide⟩) (fun H locs hd => ?_)
    exact zfv hC hd hr hlk d_KG_put_83 (by unfold x_put x_putA x_chkV; (repeat (first | (rw [if_pos]; rotate_left; first | assumption | decide) | (rw [if_neg]; rotate_left; first | assumption | decide))) <;> (try rfl))
  · refine lv_aload_n hx hb d_KG_put_45 rfl (lv_at hl 3 rfl) ?_
    refine zgetN hC hd (e_key hkn) rfl i_Key 7 (by decide) z_124 (Or.inl rfl) (v := .int (xi Z 4 k)) rfl d_KG_put_46 ?_
    refine lv_aload_n hx hb d_KG_put_49 rfl (lv_at hl 3 rfl) ?_
    refine zgetN hC hd (e_key hkn) rfl i_Key 6 (by decide) z_123 (Or.inl rfl) (v := .int (xi Z 3 k)) rfl d_KG_put_50 ?_
    refine lv_icmp_gt (tgt := 60) hx hb d_KG_put_53 (by decide) (fun c53 => ?_) (fun c53 => ?_)
    · refine lv_iconst (v := 0) hx hb d_KG_put_60 (by decide) ?_
      refine zputN (Z' := (si (sn (si (sn (sc Z 7 u (xn Z 9 u) (k + 1)) 9 u ((xn Z 9 u) + 1)) 8 k (nI u)) 6 k 0) 9 k 0)) (v := .int 0) hC hd (e_key hkn) rfl i_Key t_Key t_Key_ok n_Key 17 (by decide) z_137 rfl rfl (zbool (by decide)) (zboolf (by decide)) (Nat.le_of_ble_eq_true rfl) (u_checks hkn) d_KG_put_61 (fun H locs hd => ?_)
      refine lv_aload_n hx hb d_KG_put_64 rfl (lv_at hl 3 rfl) ?_
      refine lv_iconst (v := 0) hx hb d_KG_put_65 (by decide) ?_
      refine zputN (Z' := (sn (si (sn (si (sn (sc Z 7 u (xn Z 9 u) (k + 1)) 9 u ((xn Z 9 u) + 1)) 8 k (nI u)) 6 k 0) 9 k 0) 5 k 0)) (v := .int 0) hC hd (e_key hkn) rfl i_Key t_Key t_Key_ok n_Key 14 (by decide) z_133 rfl rfl rfl rfl (Nat.le_of_ble_eq_true rfl) (u_askingC hkn) d_KG_put_66 (fun H locs hd => ?_)
      refine lv_aload_n hx hb d_KG_put_69 rfl (lv_at hl 3 rfl) ?_
      refine zgetN hC hd (e_key hkn) rfl i_Key 1 (by decide) z_116 (Or.inl rfl) (v := .ref (ad 2 k)) (congrArg (fun q => some (va_rf q)) (if_neg hlf)) d_KG_put_70 ?_
      refine lv_aload_n hx hb d_KG_put_73 rfl (lv_at hl 3 rfl) ?_
      refine zgetN hC hd (e_key hkn) rfl i_Key 2 (by decide) z_118 (Or.inl rfl) (v := .ref (ad 3 (k + 2))) rfl d_KG_put_74 ?_
      refine zb_i (r := (nI (xn Z 2 (k + 2)))) hd (zrunV (n := 0) (rest := [.ref (ad 2 k)]) hC hd (e_list (hX.l hkn)) rfl (c_AL_size l G ad ow (sn (si (sn (si (sn (sc Z 7 u (xn Z 9 u) (k + 1)) 9 u ((xn Z 9 u) + 1)) 8 k (nI u)) 6 k 0) 9 k 0) 5 k 0) (k + 2) (hX.l hkn)) q_101 q_102 q_103 q_4 q_104 rfl rfl rfl (by decide +kernel) ⟨by decide, by decide⟩ rfl hl.1 (Nat.le_of_ble_eq_true rfl) d_KG_put_77 ⟨by decide, by decide⟩) (fun H locs hd => ?_)
      refine zb_v hd (zrunO (owner := "KeyGraph$Function") (n := 1) (rest := []) hC hd (e_f5 (hX.fn hkn) hk) rfl (c_Great_begin l G ad ow (sn (si (sn (si (sn (sc Z 7 u (xn Z 9 u) (k + 1)) 9 u ((xn Z 9 u) + 1)) 8 k (nI u)) 6 k 0) 9 k 0) 5 k 0) k (hX.fn hkn) hk (xn Z 2 (k + 2)) (by omega)) q_429 q_431 q_430 q_437 q_438 q_17 q_439 q_443 rfl rfl rfl (by decide +kernel) ⟨by decide, by decide⟩ rfl hl.1 (Nat.le_of_ble_eq_true rfl) d_KG_put_80 ⟨by decide, by decide⟩) (fun H locs hd => ?_)
      exact zfv hC hd hr hlk d_KG_put_83 (by unfold x_put x_putA x_chkV; (repeat (first | (rw [if_pos]; rotate_left; first | assumption | decide) | (rw [if_neg]; rotate_left; first | assumption | decide))) <;> (try rfl))
    · refine lv_iconst (v := 1) hx hb d_KG_put_56 (by decide) ?_
      refine lv_goto (tgt := 61) hx hb d_KG_put_57 (by decide) ?_
      refine zputN (Z' := (si (sn (si (sn (sc Z 7 u (xn Z 9 u) (k + 1)) 9 u ((xn Z 9 u) + 1)) 8 k (nI u)) 6 k 0) 9 k 1)) (v := .int 1) hC hd (e_key hkn) rfl i_Key t_Key t_Key_ok n_Key 17 (by decide) z_137 rfl rfl (zbool (by decide)) (zboolf (by decide)) (Nat.le_of_ble_eq_true rfl) (u_checks hkn) d_KG_put_61 (fun H locs hd => ?_)
      refine lv_aload_n hx hb d_KG_put_64 rfl (lv_at hl 3 rfl) ?_
      refine lv_iconst (v := 0) hx hb d_KG_put_65 (by decide) ?_
      refine zputN (Z' := (sn (si (sn (si (sn (sc Z 7 u (xn Z 9 u) (k + 1)) 9 u ((xn Z 9 u) + 1)) 8 k (nI u)) 6 k 0) 9 k 1) 5 k 0)) (v := .int 0) hC hd (e_key hkn) rfl i_Key t_Key t_Key_ok n_Key 14 (by decide) z_133 rfl rfl rfl rfl (Nat.le_of_ble_eq_true rfl) (u_askingC hkn) d_KG_put_66 (fun H locs hd => ?_)
      refine lv_aload_n hx hb d_KG_put_69 rfl (lv_at hl 3 rfl) ?_
      refine zgetN hC hd (e_key hkn) rfl i_Key 1 (by decide) z_116 (Or.inl rfl) (v := .ref (ad 2 k)) (congrArg (fun q => some (va_rf q)) (if_neg hlf)) d_KG_put_70 ?_
      refine lv_aload_n hx hb d_KG_put_73 rfl (lv_at hl 3 rfl) ?_
      refine zgetN hC hd (e_key hkn) rfl i_Key 2 (by decide) z_118 (Or.inl rfl) (v := .ref (ad 3 (k + 2))) rfl d_KG_put_74 ?_
      refine zb_i (r := (nI (xn Z 2 (k + 2)))) hd (zrunV (n := 0) (rest := [.ref (ad 2 k)]) hC hd (e_list (hX.l hkn)) rfl (c_AL_size l G ad ow (sn (si (sn (si (sn (sc Z 7 u (xn Z 9 u) (k + 1)) 9 u ((xn Z 9 u) + 1)) 8 k (nI u)) 6 k 0) 9 k 1) 5 k 0) (k + 2) (hX.l hkn)) q_101 q_102 q_103 q_4 q_104 rfl rfl rfl (by decide +kernel) ⟨by decide, by decide⟩ rfl hl.1 (Nat.le_of_ble_eq_true rfl) d_KG_put_77 ⟨by decide, by decide⟩) (fun H locs hd => ?_)
      refine zb_v hd (zrunO (owner := "KeyGraph$Function") (n := 1) (rest := []) hC hd (e_f5 (hX.fn hkn) hk) rfl (c_Great_begin l G ad ow (sn (si (sn (si (sn (sc Z 7 u (xn Z 9 u) (k + 1)) 9 u ((xn Z 9 u) + 1)) 8 k (nI u)) 6 k 0) 9 k 1) 5 k 0) k (hX.fn hkn) hk (xn Z 2 (k + 2)) (by omega)) q_429 q_431 q_430 q_437 q_438 q_17 q_439 q_443 rfl rfl rfl (by decide +kernel) ⟨by decide, by decide⟩ rfl hl.1 (Nat.le_of_ble_eq_true rfl) d_KG_put_80 ⟨by decide, by decide⟩) (fun H locs hd => ?_)
      exact zfv hC hd hr hlk d_KG_put_83 (by unfold x_put x_putA x_chkV; (repeat (first | (rw [if_pos]; rotate_left; first | assumption | decide) | (rw [if_neg]; rotate_left; first | assumption | decide))) <;> (try rfl))
theorem c_KG_put (l : Launch) (G : Gt) (ad : Nat → Nat → Nat) (ow : Nat → Nat × Nat) (Z : Zt) (hX : XS Z) (u k : Nat) (hu : u < 5) (hkn : k < xn Z 0 1) (hps : xn Z 9 u < 40) (hk : xn Z 1 k < 6) : Met l y_KG_put w_KG_put ({ frames := 2, cells := 0, slots := 0, locals := 42 }) (zPc G ad ow Z [.ref (ad 0 0), .int (nI u), .ref (ad 1 k)]) (Qd G ad ow (x_put Z u k) (none)) 0 0 (zA G) := by
  rcases (show xn Z 1 k = 0 ∨ xn Z 1 k = 1 ∨ xn Z 1 k = 2 ∨ xn Z 1 k = 3 ∨ xn Z 1 k = 4 ∨ xn Z 1 k = 5 by omega) with h | h | h | h | h | h
  · exact c_KG_put0 l G ad ow Z hX u k hu hkn hps h
  · exact c_KG_put1 l G ad ow Z hX u k hu hkn hps h
  · exact c_KG_put2 l G ad ow Z hX u k hu hkn hps h
  · exact c_KG_put3 l G ad ow Z hX u k hu hkn hps h
  · exact c_KG_put4 l G ad ow Z hX u k hu hkn hps h
  · exact c_KG_put5 l G ad ow Z hX u k hu hkn hps h
set_option maxHeartbeats 4000000 in
theorem c_KG_found (l : Launch) (G : Gt) (ad : Nat → Nat → Nat) (ow : Nat → Nat × Nat) (Z : Zt) (hX : XS Z) (u k : Nat) (hu : u < 5) (hkn : k < xn Z 0 1) (h1 : 1 ≤ xn Z 9 u) (h40 : xn Z 9 u ≤ 40) (hne : xc Z 7 u (xn Z 9 u - 1) = k + 1) : Met l y_KG_found w_KG_found ({ frames := 1, cells := 0, slots := 0, locals := 20 }) (zPc G ad ow Z [.ref (ad 0 0), .ref (ad 6 u)]) (Qd G ad ow (x_found Z u k) (some (.int 2))) 0 0 (zA G) := by
  refine zopen (cc := b_KG_found) (maxL := 3) (ret := (some FieldType.int)) (by decide) rfl (Nat.le_of_ble_eq_true rfl) ?_
  intro p e s m below meth c ls hC hr hlk hnm hd hl
  have hC : Cx G p c m s _ "KeyGraph" b_KG_found 3 := hC
  have hl : lv_has ls 3 [(0, .ref (ad 0 0)), (1, .ref (ad 6 u))] := hl
  have hx := hC.1
  have hb := hC.2.1
  refine lv_aload_n hx hb d_KG_found_0 rfl (lv_at hl 1 rfl) ?_
  refine zb_a (r := (ad 1 k)) hd (zrunV (n := 0) (rest := []) hC hd (e_pile (hX.pl hu)) rfl (c_Pile_top l G ad ow Z hX u hu (by omega) (by omega) k hne) q_394 q_395 q_396 q_5 q_397 rfl rfl rfl (by decide +kernel) ⟨by decide, by decide⟩ rfl hl.1 (Nat.le_of_ble_eq_true rfl) d_KG_found_1 ⟨by decide, by decide⟩) (fun H locs hd => ?_)
  refine lv_astore_n (lv' := [(2, .ref (ad 1 k)), (0, .ref (ad 0 0)), (1, .ref (ad 6 u))]) hx hb d_KG_found_4 rfl hl (by decide) rfl (fun ls hl => ?_)
  refine lv_aload_n hx hb d_KG_found_5 rfl (lv_at hl 0 rfl) ?_
  refine lv_aload_n hx hb d_KG_found_6 rfl (lv_at hl 1 rfl) ?_
  refine zget hC hd (e_kg hX.kg) rfl i_KG 3 (by decide) q_83 (Or.inl rfl) (v := .int (xi Z 14 0)) rfl d_KG_found_7 ?_
  refine zputN (Z' := (si Z 3 k (xi Z 14 0))) (v := .int (xi Z 14 0)) hC hd (e_key hkn) rfl i_Key t_Key t_Key_ok n_Key 6 (by decide) z_123 rfl rfl rfl rfl (Nat.le_of_ble_eq_true rfl) (u_sure hkn) d_KG_found_10 (fun H locs hd => ?_)
  refine lv_aload_n hx hb d_KG_found_13 rfl (lv_at hl 0 rfl) ?_
  refine lv_iconst (v := (-1)) hx hb d_KG_found_14 (by decide) ?_
  refine zputN (Z' := (si (si Z 3 k (xi Z 14 0)) 8 k (-1))) (v := .int (-1)) hC hd (e_key hkn) rfl i_Key t_Key t_Key_ok n_Key 15 (by decide) z_135 rfl rfl rfl rfl (Nat.le_of_ble_eq_true rfl) (u_worker hkn) d_KG_found_15 (fun H locs hd => ?_)
  refine lv_aload_n hx hb d_KG_found_18 rfl (lv_at hl 2 rfl) ?_
  refine lv_dup hx hb d_KG_found_19 rfl ?_
  refine zgetN hC hd (e_pile (hX.pl hu)) rfl i_Pile 1 (by decide) z_74 (Or.inl rfl) (v := .int (nI (xn Z 9 u))) rfl d_KG_found_20 ?_
  refine lv_iconst (v := 1) hx hb d_KG_found_23 (by decide) ?_
  refine zsubN (x := xn Z 9 u) (y := 1) (by omega) hx hb d_KG_found_24 ?_
  refine zputN (Z' := (sn (si (si Z 3 k (xi Z 14 0)) 8 k (-1)) 9 u ((xn Z 9 u) - 1))) (v := .int (nI ((xn Z 9 u) - 1))) hC hd (e_pile (hX.pl hu)) rfl i_Pile t_Pile t_Pile_ok n_Pile 1 (by decide) z_74 rfl rfl rfl rfl (Nat.le_of_ble_eq_true rfl) (u_psz (hX.pl hu)) d_KG_found_25 (fun H locs hd => ?_)
  refine lv_iconst (v := 2) hx hb d_KG_found_28 (by decide) ?_
  exact zfi hC hd hr hlk d_KG_found_29 rfl rfl
theorem XS.of {Z Z' : Zt} (hX : XS Z) (h0 : ∀ i, xn Z' 0 i = xn Z 0 i) (h2 : ∀ i, xn Z' 2 i = xn Z 2 i) (h3 : ∀ i, xn Z' 3 i = xn Z 3 i) (hc : ∀ i j, xc Z' 4 i j = xc Z 4 i j) (ha : ∀ k, k < xn Z 0 1 → xn Z' 7 k < 2 * xn Z 0 1 ∧ xn Z' 8 k < 2 * xn Z 0 1) : XS Z' := by
  obtain ⟨a1, a2, a3, a4, a5, a6⟩ := hX
  unfold XS
  simp only [h0, h2, h3, hc]
  exact ⟨a1, a2, a3, a4, a5, ha⟩
theorem zswap {Z : Zt} (hX : XS Z) (k : Nat) (hk : k < xn Z 0 1) : ∀ q, q < xn Z 0 1 → xn (sn (sn Z 7 k (xn Z 8 k)) 8 k (xn Z 7 k)) 7 q < 2 * xn Z 0 1 ∧ xn (sn (sn Z 7 k (xn Z 8 k)) 8 k (xn Z 7 k)) 8 q < 2 * xn Z 0 1 := by
  intro q hq
  have h1 := hX.2.2.2.2.2 q hq
  have h2 := hX.2.2.2.2.2 k hk
  refine ⟨?_, ?_⟩
  · show xn (sn Z 7 k (xn Z 8 k)) 7 q < _
    rw [xn_sn]; split
    · exact h2.2
    · exact h1.1
  · rw [xn_sn]; split
    · exact h2.1
    · exact h1.2
set_option maxHeartbeats 4000000 in
theorem c_KG_ends (l : Launch) (G : Gt) (ad : Nat → Nat → Nat) (ow : Nat → Nat × Nat) (Z : Zt) (hX : XS Z) (u k : Nat) (hu : u < 5) (hkn : k < xn Z 0 1) (h1 : 1 ≤ xn Z 9 u) (h40 : xn Z 9 u ≤ 40) (hne : xc Z 7 u (xn Z 9 u - 1) = k + 1) (st : Int32) (v : Int64) : Met l y_KG_ends w_KG_ends ({ frames := 2, cells := 0, slots := 0, locals := 42 }) (zPc G ad ow Z [.ref (ad 0 0), .ref (ad 6 u), .int st, .long v]) (Qd G ad ow (x_ends Z u k st v) (some (.int 2))) 0 0 (zA G) := by
  refine zopen (cc := b_KG_ends) (maxL := 7) (ret := (some FieldType.int)) (by decide) rfl (Nat.le_of_ble_eq_true rfl) ?_
  intro p e s m below meth c ls hC hr hlk hnm hd hl
  have hC : Cx G p c m s _ "KeyGraph" b_KG_ends 7 := hC
  have hl : lv_has ls 7 [(0, .ref (ad 0 0)), (1, .ref (ad 6 u)), (2, .int st), (3, .long v)] := hl
  have hx := hC.1
  have hb := hC.2.1
  refine lv_aload_n hx hb d_KG_ends_0 rfl (lv_at hl 1 rfl) ?_
  refine zb_a (r := (ad 1 k)) hd (zrunV (n := 0) (rest := []) hC hd (e_pile (hX.pl hu)) rfl (c_Pile_top l G ad ow Z hX u hu (by omega) (by omega) k hne) q_394 q_395 q_396 q_5 q_397 rfl rfl rfl (by decide +kernel) ⟨by decide, by decide⟩ rfl hl.1 (Nat.le_of_ble_eq_true rfl) d_KG_ends_1 ⟨by decide, by decide⟩) (fun H locs hd => ?_)
  refine lv_astore (lv' := [(5, .ref (ad 1 k)), (0, .ref (ad 0 0)), (1, .ref (ad 6 u)), (2, .int st), (3, .long v)]) hx hb d_KG_ends_4 hl (by decide) rfl (fun ls hl => ?_)
  refine lv_aload hx hb d_KG_ends_6 (lv_at hl 0 rfl) ?_
  refine zgetN hC hd (e_key hkn) rfl i_Key 3 (by decide) z_119 (Or.inl rfl) (v := .int (xi Z 1 k)) rfl d_KG_ends_8 ?_
  refine lv_iload_n hx hb d_KG_ends_11 rfl (lv_at hl 3 rfl) ?_
  refine lv_icmp_ne (tgt := 25) hx hb d_KG_ends_12 (by decide) (fun c12 => ?_) (fun c12 => ?_)
  · refine lv_aload hx hb d_KG_ends_25 (lv_at hl 0 rfl) ?_
    refine lv_aload_n hx hb d_KG_ends_27 rfl (lv_at hl 1 rfl) ?_
    refine zget hC hd (e_kg hX.kg) rfl i_KG 3 (by decide) q_83 (Or.inl rfl) (v := .int (xi Z 14 0)) rfl d_KG_ends_28 ?_
    refine zputN (Z' := (si Z 2 k (xi Z 14 0))) (v := .int (xi Z 14 0)) hC hd (e_key hkn) rfl i_Key t_Key t_Key_ok n_Key 5 (by decide) z_121 rfl rfl rfl rfl (Nat.le_of_ble_eq_true rfl) (u_chg hkn) d_KG_ends_31 (fun H locs hd => ?_)
    refine lv_aload hx hb d_KG_ends_34 (lv_at hl 0 rfl) ?_
    refine lv_iload_n hx hb d_KG_ends_36 rfl (lv_at hl 3 rfl) ?_
    refine zputN (Z' := (si (si Z 2 k (xi Z 14 0)) 1 k st)) (v := .int st) hC hd (e_key hkn) rfl i_Key t_Key t_Key_ok n_Key 3 (by decide) z_119 rfl rfl rfl rfl (Nat.le_of_ble_eq_true rfl) (u_st hkn) d_KG_ends_37 (fun H locs hd => ?_)
    refine lv_aload hx hb d_KG_ends_40 (lv_at hl 0 rfl) ?_
    refine lv_lload_n hx hb d_KG_ends_42 rfl (lv_at hl 4 rfl) ?_
    refine zputN (Z' := (sl (si (si Z 2 k (xi Z 14 0)) 1 k st) 1 k v)) (v := .long v) hC hd (e_key hkn) rfl i_Key t_Key t_Key_ok n_Key 4 (by decide) z_120 rfl rfl rfl rfl (Nat.le_of_ble_eq_true rfl) (u_val hkn) d_KG_ends_43 (fun H locs hd => ?_)
    refine lv_aload hx hb d_KG_ends_46 (lv_at hl 0 rfl) ?_
    refine zgetN hC hd (e_key hkn) rfl i_Key 11 (by decide) z_129 (Or.inl rfl) (v := .ref (ad 5 (xn Z 7 k))) rfl d_KG_ends_48 ?_
    refine lv_astore (lv' := [(6, .ref (ad 5 (xn Z 7 k))), (5, .ref (ad 1 k)), (0, .ref (ad 0 0)), (1, .ref (ad 6 u)), (2, .int st), (3, .long v)]) hx hb d_KG_ends_51 hl (by decide) rfl (fun ls hl => ?_)
    refine lv_aload hx hb d_KG_ends_53 (lv_at hl 1 rfl) ?_
    refine lv_aload hx hb d_KG_ends_55 (lv_at hl 1 rfl) ?_
    refine zgetN hC hd (e_key hkn) rfl i_Key 12 (by decide) z_131 (Or.inl rfl) (v := .ref (ad 5 (xn Z 8 k))) rfl d_KG_ends_57 ?_
    refine zputN (Z' := (sn (sl (si (si Z 2 k (xi Z 14 0)) 1 k st) 1 k v) 7 k (xn Z 8 k))) (v := .ref (ad 5 (xn Z 8 k))) hC hd (e_key hkn) rfl i_Key t_Key t_Key_ok n_Key 11 (by decide) z_129 rfl rfl rfl rfl (Nat.le_of_ble_eq_true rfl) (u_aA hkn) d_KG_ends_60 (fun H locs hd => ?_)
    refine lv_aload hx hb d_KG_ends_63 (lv_at hl 1 rfl) ?_
    refine lv_aload hx hb d_KG_ends_65 (lv_at hl 0 rfl) ?_
    refine zputN (Z' := (sn (sn (sl (si (si Z 2 k (xi Z 14 0)) 1 k st) 1 k v) 7 k (xn Z 8 k)) 8 k (xn Z 7 k))) (v := .ref (ad 5 (xn Z 7 k))) hC hd (e_key hkn) rfl i_Key t_Key t_Key_ok n_Key 12 (by decide) z_131 rfl rfl rfl rfl (Nat.le_of_ble_eq_true rfl) (u_aB hkn) d_KG_ends_67 (fun H locs hd => ?_)
    refine lv_aload hx hb d_KG_ends_70 (lv_at hl 1 rfl) ?_
    refine lv_aload hx hb d_KG_ends_72 (lv_at hl 1 rfl) ?_
    refine zgetN hC hd (e_key hkn) rfl i_Key 14 (by decide) z_133 (Or.inl rfl) (v := .int (nI (xn Z 5 k))) rfl d_KG_ends_74 ?_
    refine zputN (Z' := (sn (sn (sn (sl (si (si Z 2 k (xi Z 14 0)) 1 k st) 1 k v) 7 k (xn Z 8 k)) 8 k (xn Z 7 k)) 4 k (xn Z 5 k))) (v := .int (nI (xn Z 5 k))) hC hd (e_key hkn) rfl i_Key t_Key t_Key_ok n_Key 13 (by decide) z_132 rfl rfl rfl rfl (Nat.le_of_ble_eq_true rfl) (u_askedC hkn) d_KG_ends_77 (fun H locs hd => ?_)
    refine lv_aload hx hb d_KG_ends_80 (lv_at hl 1 rfl) ?_
    refine lv_dup hx hb d_KG_ends_82 rfl ?_
    refine zgetN hC hd (e_key hkn) rfl i_Key 8 (by decide) z_125 (Or.inl rfl) (v := .int (xi Z 5 k)) rfl d_KG_ends_83 ?_
    refine lv_iconst (v := 1) hx hb d_KG_ends_86 (by decide) ?_
    refine lv_iadd hx hb d_KG_ends_87 ?_
    refine zputN (Z' := (si (sn (sn (sn (sl (si (si Z 2 k (xi Z 14 0)) 1 k st) 1 k v) 7 k (xn Z 8 k)) 8 k (xn Z 7 k)) 4 k (xn Z 5 k)) 5 k ((xi Z 5 k) + 1))) (v := .int ((xi Z 5 k) + 1)) hC hd (e_key hkn) rfl i_Key t_Key t_Key_ok n_Key 8 (by decide) z_125 rfl rfl rfl rfl (Nat.le_of_ble_eq_true rfl) (u_wrk hkn) d_KG_ends_88 (fun H locs hd => ?_)
    refine lv_aload_n hx hb d_KG_ends_91 rfl (lv_at hl 2 rfl) ?_
    refine lv_aload_n hx hb d_KG_ends_92 rfl (lv_at hl 3 rfl) ?_
    have hX9 : XS (si (sn (sn (sn (sl (si (si Z 2 k (xi Z 14 0)) 1 k st) 1 k v) 7 k (xn Z 8 k)) 8 k (xn Z 7 k)) 4 k (xn Z 5 k)) 5 k ((xi Z 5 k) + 1)) := hX.of (fun _ => rfl) (fun _ => rfl) (fun _ => rfl) (fun _ _ => rfl) (zswap hX k hkn)
    refine zb_i (r := 2) hd (zrunV (n := 1) (rest := []) hC hd (e_kg hX.kg) rfl (c_KG_found l G ad ow (si (sn (sn (sn (sl (si (si Z 2 k (xi Z 14 0)) 1 k st) 1 k v) 7 k (xn Z 8 k)) 8 k (xn Z 7 k)) 4 k (xn Z 5 k)) 5 k ((xi Z 5 k) + 1)) hX9 u k hu hkn h1 h40 hne) q_457 q_459 qp_13 q_1 q_460 rfl rfl rfl (by decide +kernel) ⟨by decide, by decide⟩ rfl hl.1 (Nat.le_of_ble_eq_true rfl) d_KG_ends_93 ⟨by decide, by decide⟩) (fun H locs hd => ?_)
    exact zfi hC hd hr hlk d_KG_ends_96 rfl (by unfold x_ends x_endsA; (repeat (first | (rw [if_pos]; rotate_left; first | assumption | decide) | (rw [if_neg]; rotate_left; first | assumption | decide))) <;> (try rfl))
  · refine lv_aload hx hb d_KG_ends_15 (lv_at hl 0 rfl) ?_
    refine zgetN hC hd (e_key hkn) rfl i_Key 4 (by decide) z_120 (Or.inl rfl) (v := .long (xl Z 1 k)) rfl d_KG_ends_17 ?_
    refine lv_lload_n hx hb d_KG_ends_20 rfl (lv_at hl 4 rfl) ?_
    refine W.lcmp hx hb d_KG_ends_21 ?_
    refine lv_if_eq (tgt := 34) hx hb d_KG_ends_22 (by decide) (fun c22 => ?_) (fun c22 => ?_)
    · simp only [ne_eq, lg_cmp_eq, lg_cmp_le, lg_cmp_lt, lg_cmp_ge, lg_cmp_gt] at c22
      refine lv_aload hx hb d_KG_ends_34 (lv_at hl 0 rfl) ?_
      refine lv_iload_n hx hb d_KG_ends_36 rfl (lv_at hl 3 rfl) ?_
      refine zputN (Z' := (si Z 1 k st)) (v := .int st) hC hd (e_key hkn) rfl i_Key t_Key t_Key_ok n_Key 3 (by decide) z_119 rfl rfl rfl rfl (Nat.le_of_ble_eq_true rfl) (u_st hkn) d_KG_ends_37 (fun H locs hd => ?_)
      refine lv_aload hx hb d_KG_ends_40 (lv_at hl 0 rfl) ?_
      refine lv_lload_n hx hb d_KG_ends_42 rfl (lv_at hl 4 rfl) ?_
      refine zputN (Z' := (sl (si Z 1 k st) 1 k v)) (v := .long v) hC hd (e_key hkn) rfl i_Key t_Key t_Key_ok n_Key 4 (by decide) z_120 rfl rfl rfl rfl (Nat.le_of_ble_eq_true rfl) (u_val hkn) d_KG_ends_43 (fun H locs hd => ?_)
      refine lv_aload hx hb d_KG_ends_46 (lv_at hl 0 rfl) ?_
      refine zgetN hC hd (e_key hkn) rfl i_Key 11 (by decide) z_129 (Or.inl rfl) (v := .ref (ad 5 (xn Z 7 k))) rfl d_KG_ends_48 ?_
      refine lv_astore (lv' := [(6, .ref (ad 5 (xn Z 7 k))), (5, .ref (ad 1 k)), (0, .ref (ad 0 0)), (1, .ref (ad 6 u)), (2, .int st), (3, .long v)]) hx hb d_KG_ends_51 hl (by decide) rfl (fun ls hl => ?_)
      refine lv_aload hx hb d_KG_ends_53 (lv_at hl 1 rfl) ?_
      refine lv_aload hx hb d_KG_ends_55 (lv_at hl 1 rfl) ?_
      refine zgetN hC hd (e_key hkn) rfl i_Key 12 (by decide) z_131 (Or.inl rfl) (v := .ref (ad 5 (xn Z 8 k))) rfl d_KG_ends_57 ?_
      refine zputN (Z' := (sn (sl (si Z 1 k st) 1 k v) 7 k (xn Z 8 k))) (v := .ref (ad 5 (xn Z 8 k))) hC hd (e_key hkn) rfl i_Key t_Key t_Key_ok n_Key 11 (by decide) z_129 rfl rfl rfl rfl (Nat.le_of_ble_eq_true rfl) (u_aA hkn) d_KG_ends_60 (fun H locs hd => ?_)
      refine lv_aload hx hb d_KG_ends_63 (lv_at hl 1 rfl) ?_
      refine lv_aload hx hb d_KG_ends_65 (lv_at hl 0 rfl) ?_
      refine zputN (Z' := (sn (sn (sl (si Z 1 k st) 1 k v) 7 k (xn Z 8 k)) 8 k (xn Z 7 k))) (v := .ref (ad 5 (xn Z 7 k))) hC hd (e_key hkn) rfl i_Key t_Key t_Key_ok n_Key 12 (by decide) z_131 rfl rfl rfl rfl (Nat.le_of_ble_eq_true rfl) (u_aB hkn) d_KG_ends_67 (fun H locs hd => ?_)
      refine lv_aload hx hb d_KG_ends_70 (lv_at hl 1 rfl) ?_
      refine lv_aload hx hb d_KG_ends_72 (lv_at hl 1 rfl) ?_
      refine zgetN hC hd (e_key hkn) rfl i_Key 14 (by decide) z_133 (Or.inl rfl) (v := .int (nI (xn Z 5 k))) rfl d_KG_ends_74 ?_
      refine zputN (Z' := (sn (sn (sn (sl (si Z 1 k st) 1 k v) 7 k (xn Z 8 k)) 8 k (xn Z 7 k)) 4 k (xn Z 5 k))) (v := .int (nI (xn Z 5 k))) hC hd (e_key hkn) rfl i_Key t_Key t_Key_ok n_Key 13 (by decide) z_132 rfl rfl rfl rfl (Nat.le_of_ble_eq_true rfl) (u_askedC hkn) d_KG_ends_77 (fun H locs hd => ?_)
      refine lv_aload hx hb d_KG_ends_80 (lv_at hl 1 rfl) ?_
      refine lv_dup hx hb d_KG_ends_82 rfl ?_
      refine zgetN hC hd (e_key hkn) rfl i_Key 8 (by decide) z_125 (Or.inl rfl) (v := .int (xi Z 5 k)) rfl d_KG_ends_83 ?_
      refine lv_iconst (v := 1) hx hb d_KG_ends_86 (by decide) ?_
      refine lv_iadd hx hb d_KG_ends_87 ?_
      refine zputN (Z' := (si (sn (sn (sn (sl (si Z 1 k st) 1 k v) 7 k (xn Z 8 k)) 8 k (xn Z 7 k)) 4 k (xn Z 5 k)) 5 k ((xi Z 5 k) + 1))) (v := .int ((xi Z 5 k) + 1)) hC hd (e_key hkn) rfl i_Key t_Key t_Key_ok n_Key 8 (by decide) z_125 rfl rfl rfl rfl (Nat.le_of_ble_eq_true rfl) (u_wrk hkn) d_KG_ends_88 (fun H locs hd => ?_)
      refine lv_aload_n hx hb d_KG_ends_91 rfl (lv_at hl 2 rfl) ?_
      refine lv_aload_n hx hb d_KG_ends_92 rfl (lv_at hl 3 rfl) ?_
      have hX9 : XS (si (sn (sn (sn (sl (si Z 1 k st) 1 k v) 7 k (xn Z 8 k)) 8 k (xn Z 7 k)) 4 k (xn Z 5 k)) 5 k ((xi Z 5 k) + 1)) := hX.of (fun _ => rfl) (fun _ => rfl) (fun _ => rfl) (fun _ _ => rfl) (zswap hX k hkn)
      refine zb_i (r := 2) hd (zrunV (n := 1) (rest := []) hC hd (e_kg hX.kg) rfl (c_KG_found l G ad ow (si (sn (sn (sn (sl (si Z 1 k st) 1 k v) 7 k (xn Z 8 k)) 8 k (xn Z 7 k)) 4 k (xn Z 5 k)) 5 k ((xi Z 5 k) + 1)) hX9 u k hu hkn h1 h40 hne) q_457 q_459 qp_13 q_1 q_460 rfl rfl rfl (by decide +kernel) ⟨by decide, by decide⟩ rfl hl.1 (Nat.le_of_ble_eq_true rfl) d_KG_ends_93 ⟨by decide, by decide⟩) (fun H locs hd => ?_)
      exact zfi hC hd hr hlk d_KG_ends_96 rfl (by unfold x_ends x_endsA; (repeat (first | (rw [if_pos]; rotate_left; first | assumption | decide) | (rw [if_neg]; rotate_left; first | assumption | decide))) <;> (try rfl))
    · simp only [ne_eq, lg_cmp_eq, lg_cmp_le, lg_cmp_lt, lg_cmp_ge, lg_cmp_gt] at c22
      refine lv_aload hx hb d_KG_ends_25 (lv_at hl 0 rfl) ?_
      refine lv_aload_n hx hb d_KG_ends_27 rfl (lv_at hl 1 rfl) ?_
      refine zget hC hd (e_kg hX.kg) rfl i_KG 3 (by decide) q_83 (Or.inl rfl) (v := .int (xi Z 14 0)) rfl d_KG_ends_28 ?_
      refine zputN (Z' := (si Z 2 k (xi Z 14 0))) (v := .int (xi Z 14 0)) hC hd (e_key hkn) rfl i_Key t_Key t_Key_ok n_Key 5 (by decide) z_121 rfl rfl rfl rfl (Nat.le_of_ble_eq_true rfl) (u_chg hkn) d_KG_ends_31 (fun H locs hd => ?_)
      refine lv_aload hx hb d_KG_ends_34 (lv_at hl 0 rfl) ?_
      refine lv_iload_n hx hb d_KG_ends_36 rfl (lv_at hl 3 rfl) ?_
      refine zputN (Z' := (si (si Z 2 k (xi Z 14 0)) 1 k st)) (v := .int st) hC hd (e_key hkn) rfl i_Key t_Key t_Key_ok n_Key 3 (by decide) z_119 rfl rfl rfl rfl (Nat.le_of_ble_eq_true rfl) (u_st hkn) d_KG_ends_37 (fun H locs hd => ?_)
      refine lv_aload hx hb d_KG_ends_40 (lv_at hl 0 rfl) ?_
      refine lv_lload_n hx hb d_KG_ends_42 rfl (lv_at hl 4 rfl) ?_
      refine zputN (Z' := (sl (si (si Z 2 k (xi Z 14 0)) 1 k st) 1 k v)) (v := .long v) hC hd (e_key hkn) rfl i_Key t_Key t_Key_ok n_Key 4 (by decide) z_120 rfl rfl rfl rfl (Nat.le_of_ble_eq_true rfl) (u_val hkn) d_KG_ends_43 (fun H locs hd => ?_)
      refine lv_aload hx hb d_KG_ends_46 (lv_at hl 0 rfl) ?_
      refine zgetN hC hd (e_key hkn) rfl i_Key 11 (by decide) z_129 (Or.inl rfl) (v := .ref (ad 5 (xn Z 7 k))) rfl d_KG_ends_48 ?_
      refine lv_astore (lv' := [(6, .ref (ad 5 (xn Z 7 k))), (5, .ref (ad 1 k)), (0, .ref (ad 0 0)), (1, .ref (ad 6 u)), (2, .int st), (3, .long v)]) hx hb d_KG_ends_51 hl (by decide) rfl (fun ls hl => ?_)
      refine lv_aload hx hb d_KG_ends_53 (lv_at hl 1 rfl) ?_
      refine lv_aload hx hb d_KG_ends_55 (lv_at hl 1 rfl) ?_
      refine zgetN hC hd (e_key hkn) rfl i_Key 12 (by decide) z_131 (Or.inl rfl) (v := .ref (ad 5 (xn Z 8 k))) rfl d_KG_ends_57 ?_
      refine zputN (Z' := (sn (sl (si (si Z 2 k (xi Z 14 0)) 1 k st) 1 k v) 7 k (xn Z 8 k))) (v := .ref (ad 5 (xn Z 8 k))) hC hd (e_key hkn) rfl i_Key t_Key t_Key_ok n_Key 11 (by decide) z_129 rfl rfl rfl rfl (Nat.le_of_ble_eq_true rfl) (u_aA hkn) d_KG_ends_60 (fun H locs hd => ?_)
      refine lv_aload hx hb d_KG_ends_63 (lv_at hl 1 rfl) ?_
      refine lv_aload hx hb d_KG_ends_65 (lv_at hl 0 rfl) ?_
      refine zputN (Z' := (sn (sn (sl (si (si Z 2 k (xi Z 14 0)) 1 k st) 1 k v) 7 k (xn Z 8 k)) 8 k (xn Z 7 k))) (v := .ref (ad 5 (xn Z 7 k))) hC hd (e_key hkn) rfl i_Key t_Key t_Key_ok n_Key 12 (by decide) z_131 rfl rfl rfl rfl (Nat.le_of_ble_eq_true rfl) (u_aB hkn) d_KG_ends_67 (fun H locs hd => ?_)
      refine lv_aload hx hb d_KG_ends_70 (lv_at hl 1 rfl) ?_
      refine lv_aload hx hb d_KG_ends_72 (lv_at hl 1 rfl) ?_
      refine zgetN hC hd (e_key hkn) rfl i_Key 14 (by decide) z_133 (Or.inl rfl) (v := .int (nI (xn Z 5 k))) rfl d_KG_ends_74 ?_
      refine zputN (Z' := (sn (sn (sn (sl (si (si Z 2 k (xi Z 14 0)) 1 k st) 1 k v) 7 k (xn Z 8 k)) 8 k (xn Z 7 k)) 4 k (xn Z 5 k))) (v := .int (nI (xn Z 5 k))) hC hd (e_key hkn) rfl i_Key t_Key t_Key_ok n_Key 13 (by decide) z_132 rfl rfl rfl rfl (Nat.le_of_ble_eq_true rfl) (u_askedC hkn) d_KG_ends_77 (fun H locs hd => ?_)
      refine lv_aload hx hb d_KG_ends_80 (lv_at hl 1 rfl) ?_
      refine lv_dup hx hb d_KG_ends_82 rfl ?_
      refine zgetN hC hd (e_key hkn) rfl i_Key 8 (by decide) z_125 (Or.inl rfl) (v := .int (xi Z 5 k)) rfl d_KG_ends_83 ?_
      refine lv_iconst (v := 1) hx hb d_KG_ends_86 (by decide) ?_
      refine lv_iadd hx hb d_KG_ends_87 ?_
      refine zputN (Z' := (si (sn (sn (sn (sl (si (si Z 2 k (xi Z 14 0)) 1 k st) 1 k v) 7 k (xn Z 8 k)) 8 k (xn Z 7 k)) 4 k (xn Z 5 k)) 5 k ((xi Z 5 k) + 1))) (v := .int ((xi Z 5 k) + 1)) hC hd (e_key hkn) rfl i_Key t_Key t_Key_ok n_Key 8 (by decide) z_125 rfl rfl rfl rfl (Nat.le_of_ble_eq_true rfl) (u_wrk hkn) d_KG_ends_88 (fun H locs hd => ?_)
      refine lv_aload_n hx hb d_KG_ends_91 rfl (lv_at hl 2 rfl) ?_
      refine lv_aload_n hx hb d_KG_ends_92 rfl (lv_at hl 3 rfl) ?_
      have hX9 : XS (si (sn (sn (sn (sl (si (si Z 2 k (xi Z 14 0)) 1 k st) 1 k v) 7 k (xn Z 8 k)) 8 k (xn Z 7 k)) 4 k (xn Z 5 k)) 5 k ((xi Z 5 k) + 1)) := hX.of (fun _ => rfl) (fun _ => rfl) (fun _ => rfl) (fun _ _ => rfl) (zswap hX k hkn)
      refine zb_i (r := 2) hd (zrunV (n := 1) (rest := []) hC hd (e_kg hX.kg) rfl (c_KG_found l G ad ow (si (sn (sn (sn (sl (si (si Z 2 k (xi Z 14 0)) 1 k st) 1 k v) 7 k (xn Z 8 k)) 8 k (xn Z 7 k)) 4 k (xn Z 5 k)) 5 k ((xi Z 5 k) + 1)) hX9 u k hu hkn h1 h40 hne) q_457 q_459 qp_13 q_1 q_460 rfl rfl rfl (by decide +kernel) ⟨by decide, by decide⟩ rfl hl.1 (Nat.le_of_ble_eq_true rfl) d_KG_ends_93 ⟨by decide, by decide⟩) (fun H locs hd => ?_)
      exact zfi hC hd hr hlk d_KG_ends_96 rfl (by unfold x_ends x_endsA; (repeat (first | (rw [if_pos]; rotate_left; first | assumption | decide) | (rw [if_neg]; rotate_left; first | assumption | decide))) <;> (try rfl))
set_option maxHeartbeats 4000000 in
theorem c_KG_goesDown (l : Launch) (G : Gt) (ad : Nat → Nat → Nat) (ow : Nat → Nat × Nat) (Z : Zt) (hX : XS Z) (u k : Nat) (hu : u < 5) (hkn : k < xn Z 0 1) (hk : xn Z 1 k < 6) (hps : xi Z 8 k < 0 → xn Z 9 u < 40) : Met l y_KG_goesDown w_KG_goesDown ({ frames := 3, cells := 0, slots := 0, locals := 65 }) (zPc G ad ow Z [.ref (ad 0 0), .int (nI u), .ref (ad 1 k)]) (Qd G ad ow ((x_goesDown Z u k).1) (some (.int (x_goesDown Z u k).2))) 0 0 (zA G) := by
  refine zopen (cc := b_KG_goesDown) (maxL := 3) (ret := (some FieldType.int)) (by decide) rfl (Nat.le_of_ble_eq_true rfl) ?_
  intro p e s m below meth c ls hC hr hlk hnm hd hl
  have hC : Cx G p c m s _ "KeyGraph" b_KG_goesDown 3 := hC
  have hl : lv_has ls 3 [(0, .ref (ad 0 0)), (1, .int (nI u)), (2, .ref (ad 1 k))] := hl
  have hx := hC.1
  have hb := hC.2.1
  refine lv_aload_n hx hb d_KG_goesDown_0 rfl (lv_at hl 2 rfl) ?_
  refine zgetN hC hd (e_key hkn) rfl i_Key 15 (by decide) z_135 (Or.inl rfl) (v := .int (xi Z 8 k)) rfl d_KG_goesDown_1 ?_
  refine lv_if_lt (tgt := 9) hx hb d_KG_goesDown_4 (by decide) (fun c4 => ?_) (fun c4 => ?_)
  · refine lv_aload_n hx hb d_KG_goesDown_9 rfl (lv_at hl 0 rfl) ?_
    refine lv_iload_n hx hb d_KG_goesDown_10 rfl (lv_at hl 1 rfl) ?_
    refine lv_aload_n hx hb d_KG_goesDown_11 rfl (lv_at hl 2 rfl) ?_
    refine zb_v hd (zrunV (n := 2) (rest := []) hC hd (e_kg hX.kg) rfl (c_KG_put l G ad ow Z hX u k (by omega) hkn (hps c4) hk) q_425 q_427 qp_10 q_1 q_428 rfl rfl rfl (by decide +kernel) ⟨by decide, by decide⟩ rfl hl.1 (Nat.le_of_ble_eq_true rfl) d_KG_goesDown_12 ⟨by decide, by decide⟩) (fun H locs hd => ?_)
    refine lv_iconst (v := 1) hx hb d_KG_goesDown_15 (by decide) ?_
    exact zfi hC hd hr hlk d_KG_goesDown_16 (by unfold x_goesDown; (repeat (first | (rw [if_pos]; rotate_left; first | assumption | decide) | (rw [if_neg]; rotate_left; first | assumption | decide))) <;> (try rfl)) (by unfold x_goesDown; (repeat (first | (rw [if_pos]; rotate_left; first | assumption | decide) | (rw [if_neg]; rotate_left; first | assumption | decide))) <;> (try rfl))
  · refine lv_iconst (v := 3) hx hb d_KG_goesDown_7 (by decide) ?_
    exact zfi hC hd hr hlk d_KG_goesDown_8 (by unfold x_goesDown; (repeat (first | (rw [if_pos]; rotate_left; first | assumption | decide) | (rw [if_neg]; rotate_left; first | assumption | decide))) <;> (try rfl)) (by unfold x_goesDown; (repeat (first | (rw [if_pos]; rotate_left; first | assumption | decide) | (rw [if_neg]; rotate_left; first | assumption | decide))) <;> (try rfl))
