def AddPre (Z : Zt) (i : Nat) : Prop := (i < xn Z 0 3 ∧ i < xn Z 0 4 ∧ 50 ≤ xn Z 0 13 ∧ xr Z 5 = none) ∧ (xn Z 3 i = 0 ∨ xn Z 3 i = 10 ∨ xn Z 3 i = 15 ∨ xn Z 3 i = 22 ∨ xn Z 3 i = 33 ∨ xn Z 3 i = 49) ∧ (xn Z 2 i ≤ xn Z 3 i ∧ xn Z 2 i < 49) ∧ (∀ j, xn Z 2 i ≤ j → xc Z 4 i j = 0) ∧ (∀ j, j < xn Z 2 i → 1 ≤ xc Z 4 i j ∧ xc Z 4 i j ≤ xn Z 0 1)
set_option maxHeartbeats 4000000 in
theorem c_add3_n (l : Launch) (G : Gt) (ad : Nat → Nat → Nat) (ow : Nat → Nat × Nat) (Z : Zt) (i : Nat) (hi : i < xn Z 0 3) (hi4 : i < xn Z 0 4) (hlt : xn Z 2 i < xn Z 3 i) (hcn : xn Z 3 i ≤ 100) (k : Nat) (hk : k < xn Z 0 1) : Met l y_AL_add3 w_AL_add3 ({ frames := 5, cells := 0, slots := 0, locals := 147 }) (zPc G ad ow Z [.ref (ad 3 i), .ref (ad 1 k), .ref (ad 4 i), .int (nI (xn Z 2 i))]) (Qd G ad ow (sn (sc Z 4 i (xn Z 2 i) (k + 1)) 2 i (xn Z 2 i + 1)) none) 0 0 (zA G) := by
  refine zopen (cc := b_AL_add3) (maxL := 4) (ret := none) (by decide) rfl (Nat.le_of_ble_eq_true rfl) ?_
  intro p e s m below meth c ls hC hr hlk hnm hd hl
  have hC : Cx G p c m s _ "java/util/ArrayList" b_AL_add3 4 := hC
  have hl : lv_has ls 4 [(0, .ref (ad 3 i)), (1, .ref (ad 1 k)), (2, .ref (ad 4 i)), (3, .int (nI (xn Z 2 i)))] := hl
  have hx := hC.1
  have hb := hC.2.1
  have hc0 : xn Z 3 i ≠ 0 := by omega
  refine lv_iload_n hx hb d_AL_add3_0 rfl (lv_at hl 3 rfl) ?_
  refine lv_aload_n hx hb d_AL_add3_1 rfl (lv_at hl 2 rfl) ?_
  refine zalen hC hd (e_elem hi4 hc0) 3 rfl (v := nI (xn Z 3 i)) rfl d_AL_add3_2 ?_
  refine zc_ne (x := xn Z 2 i) (y := xn Z 3 i) (tgt := 11) (by omega) (by omega) hx hb d_AL_add3_3 (by decide) (fun c3 => ?_) (fun c3 => absurd c3 (by omega))
  refine lv_aload_n hx hb d_AL_add3_11 rfl (lv_at hl 2 rfl) ?_
  refine lv_iload_n hx hb d_AL_add3_12 rfl (lv_at hl 3 rfl) ?_
  refine lv_aload_n hx hb d_AL_add3_13 rfl (lv_at hl 1 rfl) ?_
  refine zasO (j := xn Z 2 i) (Z' := (sc Z 4 i (xn Z 2 i) (k + 1))) hC hd (e_elem hi4 hc0) (e_key hk) (by omega) (by omega) (u_elem hi4 hc0) d_AL_add3_14 (fun H locs hd => ?_)
  refine lv_aload_n hx hb d_AL_add3_15 rfl (lv_at hl 0 rfl) ?_
  refine lv_iload_n hx hb d_AL_add3_16 rfl (lv_at hl 3 rfl) ?_
  refine lv_iconst (v := 1) hx hb d_AL_add3_17 (by decide) ?_
  refine zaddN (x := xn Z 2 i) (y := 1) hx hb d_AL_add3_18 ?_
  refine zput (Z' := (sn (sc Z 4 i (xn Z 2 i) (k + 1)) 2 i ((xn Z 2 i) + 1))) (v := .int (nI ((xn Z 2 i) + 1))) hC hd (e_list hi) rfl i_AL t_AL t_AL_ok n_AL 2 (by decide) q_48 (Or.inl rfl) rfl rfl rfl (Nat.le_of_ble_eq_true rfl) (u_lsz hi) d_AL_add3_19 (fun H locs hd => ?_)
  exact zfv hC hd hr hlk d_AL_add3_22 rfl
set_option maxHeartbeats 4000000 in
theorem c_add3_0 (l : Launch) (G : Gt) (ad0 : Nat → Nat → Nat) (ow : Nat → Nat × Nat) (Z : Zt) (i : Nat) (hi4 : i < xn Z 0 4) (h13 : 50 ≤ xn Z 0 13) (hcap : xn Z 3 i = 0) (hLI : ∀ j, 0 ≤ j → xc Z 4 i j = 0) (hel : ∀ j, j < 0 → 1 ≤ xc Z 4 i j ∧ xc Z 4 i j ≤ xn Z 0 1) (hi : i < xn Z 0 3) (hraw : xr Z 5 = none) (hsz : xn Z 2 i = 0) (k : Nat) (hk : k < xn Z 0 1) : Met l y_AL_add3 w_AL_add3 ({ frames := 5, cells := 1, slots := 10, locals := 147 }) (zPc G ad0 ow Z [.ref (ad0 3 i), .ref (ad0 1 k), .ref (ge G), .int (nI (xn Z 2 i))]) (Qg G (fun ad9 _ Z9 v9 => ∃ a b, upA (upA ad0 13 5 b) 4 i a = ad9 ∧ (sn (sc (sn Z 3 i 10) 4 i (xn Z 2 i) (k + 1)) 2 i (xn Z 2 i + 1)) = Z9 ∧ none = v9)) 1 10 (zA G) := by
  refine zopen (cc := b_AL_add3) (maxL := 4) (ret := none) (by decide) rfl (Nat.le_of_ble_eq_true rfl) ?_
  intro p e s m below meth c ls hC hr hlk hnm hd hl
  have hC : Cx G p c m s _ "java/util/ArrayList" b_AL_add3 4 := hC
  have hl : lv_has ls 4 [(0, .ref (ad0 3 i)), (1, .ref (ad0 1 k)), (2, .ref (ge G)), (3, .int (nI (xn Z 2 i)))] := hl
  have hx := hC.1
  have hb := hC.2.1
  refine lv_iload_n hx hb d_AL_add3_0 rfl (lv_at hl 3 rfl) ?_
  refine lv_aload_n hx hb d_AL_add3_1 rfl (lv_at hl 2 rfl) ?_
  refine zalenE hC hd d_AL_add3_2 ?_
  refine zc_ne (x := xn Z 2 i) (y := 0) (tgt := 11) (by omega) (by omega) hx hb d_AL_add3_3 (by decide) (fun c3 => absurd c3 (by omega)) (fun c3 => ?_)
  refine lv_aload_n hx hb d_AL_add3_6 rfl (lv_at hl 0 rfl) ?_
  refine zbackg hd (zrunV (n := 0) (rest := []) hC hd (e_list hi) rfl (c_grow0_0 l G ad0 ow Z i hi4 h13 hcap hLI hel hi hraw hsz) q_184 q_186 qp_1 q_4 q_187 rfl rfl rfl (by decide +kernel) ⟨by decide, by decide⟩ rfl hl.1 (Nat.le_of_ble_eq_true rfl) d_AL_add3_7 ⟨by decide, by decide⟩) rfl rfl (fun ad9 ow Z9 v9 H locs hq hd => ?_)
  obtain ⟨a, b, had, rfl, rfl⟩ := hq
  have e3 : ad0 3 i = ad9 3 i := by rw [← had]; rfl
  have e1 : ad0 1 k = ad9 1 k := by rw [← had]; rfl
  have e4 : a = ad9 4 i := by rw [← had, upA_self]
  rw [e3, e1] at hl
  change W _ _ _ _ _ _ _ _ _ _ _ _ _ _ _ (F0 m 10 ls [.ref a])
  rw [e4]
  have hc0 : xn (sn Z 3 i 10) 3 i ≠ 0 := by rw [xn_sn, if_pos ⟨rfl, rfl⟩]; decide
  have hcv : xn (sn Z 3 i 10) 3 i = 10 := by rw [xn_sn, if_pos ⟨rfl, rfl⟩]
  refine lv_astore_n (lv' := [(2, .ref (ad9 4 i)), (0, .ref (ad9 3 i)), (1, .ref (ad9 1 k)), (3, .int (nI (xn Z 2 i)))]) hx hb d_AL_add3_10 rfl hl (by decide) rfl (fun ls hl => ?_)
  refine lv_aload_n hx hb d_AL_add3_11 rfl (lv_at hl 0 rfl) ?_
  refine lv_iload_n hx hb d_AL_add3_12 rfl (lv_at hl 3 rfl) ?_
  refine lv_aload_n hx hb d_AL_add3_13 rfl (lv_at hl 2 rfl) ?_
  refine zasO (j := xn Z 2 i) (Z' := (sc (sn Z 3 i 10) 4 i (xn Z 2 i) (k + 1))) hC hd (e_elem (show i < xn Z 0 4 from hi4) hc0) (e_key (show k < xn Z 0 1 from hk)) (show xn Z 2 i < xn (sn Z 3 i 10) 3 i by rw [hcv, hsz]; decide) (by rw [hcv]; decide) (u_elem (show i < xn Z 0 4 from hi4) hc0) d_AL_add3_14 (fun H locs hd => ?_)
  refine lv_aload_n hx hb d_AL_add3_15 rfl (lv_at hl 1 rfl) ?_
  refine lv_iload_n hx hb d_AL_add3_16 rfl (lv_at hl 3 rfl) ?_
  refine lv_iconst (v := 1) hx hb d_AL_add3_17 (by decide) ?_
  refine zaddN (x := xn Z 2 i) (y := 1) hx hb d_AL_add3_18 ?_
  refine zput (Z' := (sn (sc (sn Z 3 i 10) 4 i (xn Z 2 i) (k + 1)) 2 i ((xn Z 2 i) + 1))) (v := .int (nI ((xn Z 2 i) + 1))) hC hd (e_list (show i < xn Z 0 3 from hi)) rfl i_AL t_AL t_AL_ok n_AL 2 (by decide) q_48 (Or.inl rfl) rfl rfl rfl (Nat.le_of_ble_eq_true rfl) (u_lsz (show i < xn Z 0 3 from hi)) d_AL_add3_19 (fun H locs hd => ?_)
  exact zgv hC hd hr hlk d_AL_add3_22 ⟨a, b, had, rfl, rfl⟩ (Nat.le_of_ble_eq_true rfl) (Nat.le_of_ble_eq_true rfl)
set_option maxHeartbeats 4000000 in
theorem c_add3_10 (l : Launch) (G : Gt) (ad0 : Nat → Nat → Nat) (ow : Nat → Nat × Nat) (Z : Zt) (i : Nat) (hi4 : i < xn Z 0 4) (h13 : 50 ≤ xn Z 0 13) (hcap : xn Z 3 i = 10) (hLI : ∀ j, 10 ≤ j → xc Z 4 i j = 0) (hel : ∀ j, j < 10 → 1 ≤ xc Z 4 i j ∧ xc Z 4 i j ≤ xn Z 0 1) (hi : i < xn Z 0 3) (hraw : xr Z 5 = none) (hsz : xn Z 2 i = 10) (k : Nat) (hk : k < xn Z 0 1) : Met l y_AL_add3 w_AL_add3 ({ frames := 5, cells := 1, slots := 15, locals := 147 }) (zPc G ad0 ow Z [.ref (ad0 3 i), .ref (ad0 1 k), .ref (ad0 4 i), .int (nI (xn Z 2 i))]) (Qg G (fun ad9 _ Z9 v9 => ∃ a b, upA (upA ad0 13 5 b) 4 i a = ad9 ∧ (sn (sc (sn Z 3 i 15) 4 i (xn Z 2 i) (k + 1)) 2 i (xn Z 2 i + 1)) = Z9 ∧ none = v9)) 1 15 (zA G) := by
  refine zopen (cc := b_AL_add3) (maxL := 4) (ret := none) (by decide) rfl (Nat.le_of_ble_eq_true rfl) ?_
  intro p e s m below meth c ls hC hr hlk hnm hd hl
  have hC : Cx G p c m s _ "java/util/ArrayList" b_AL_add3 4 := hC
  have hl : lv_has ls 4 [(0, .ref (ad0 3 i)), (1, .ref (ad0 1 k)), (2, .ref (ad0 4 i)), (3, .int (nI (xn Z 2 i)))] := hl
  have hx := hC.1
  have hb := hC.2.1
  refine lv_iload_n hx hb d_AL_add3_0 rfl (lv_at hl 3 rfl) ?_
  refine lv_aload_n hx hb d_AL_add3_1 rfl (lv_at hl 2 rfl) ?_
  refine zalen hC hd (e_elem hi4 (show xn Z 3 i ≠ 0 by omega)) 3 rfl (v := nI (xn Z 3 i)) rfl d_AL_add3_2 ?_
  refine zc_ne (x := xn Z 2 i) (y := xn Z 3 i) (tgt := 11) (by omega) (by omega) hx hb d_AL_add3_3 (by decide) (fun c3 => absurd c3 (by omega)) (fun c3 => ?_)
  refine lv_aload_n hx hb d_AL_add3_6 rfl (lv_at hl 0 rfl) ?_
  refine zbackg hd (zrunV (n := 0) (rest := []) hC hd (e_list hi) rfl (c_grow0_10 l G ad0 ow Z i hi4 h13 hcap hLI hel hi hraw hsz) q_184 q_186 qp_1 q_4 q_187 rfl rfl rfl (by decide +kernel) ⟨by decide, by decide⟩ rfl hl.1 (Nat.le_of_ble_eq_true rfl) d_AL_add3_7 ⟨by decide, by decide⟩) rfl rfl (fun ad9 ow Z9 v9 H locs hq hd => ?_)
  obtain ⟨a, b, had, rfl, rfl⟩ := hq
  have e3 : ad0 3 i = ad9 3 i := by rw [← had]; rfl
  have e1 : ad0 1 k = ad9 1 k := by rw [← had]; rfl
  have e4 : a = ad9 4 i := by rw [← had, upA_self]
  rw [e3, e1] at hl
  change W _ _ _ _ _ _ _ _ _ _ _ _ _ _ _ (F0 m 10 ls [.ref a])
  rw [e4]
  have hc0 : xn (sn Z 3 i 15) 3 i ≠ 0 := by rw [xn_sn, if_pos ⟨rfl, rfl⟩]; decide
  have hcv : xn (sn Z 3 i 15) 3 i = 15 := by rw [xn_sn, if_pos ⟨rfl, rfl⟩]
  refine lv_astore_n (lv' := [(2, .ref (ad9 4 i)), (0, .ref (ad9 3 i)), (1, .ref (ad9 1 k)), (3, .int (nI (xn Z 2 i)))]) hx hb d_AL_add3_10 rfl hl (by decide) rfl (fun ls hl => ?_)
  refine lv_aload_n hx hb d_AL_add3_11 rfl (lv_at hl 0 rfl) ?_
  refine lv_iload_n hx hb d_AL_add3_12 rfl (lv_at hl 3 rfl) ?_
  refine lv_aload_n hx hb d_AL_add3_13 rfl (lv_at hl 2 rfl) ?_
  refine zasO (j := xn Z 2 i) (Z' := (sc (sn Z 3 i 15) 4 i (xn Z 2 i) (k + 1))) hC hd (e_elem (show i < xn Z 0 4 from hi4) hc0) (e_key (show k < xn Z 0 1 from hk)) (show xn Z 2 i < xn (sn Z 3 i 15) 3 i by rw [hcv, hsz]; decide) (by rw [hcv]; decide) (u_elem (show i < xn Z 0 4 from hi4) hc0) d_AL_add3_14 (fun H locs hd => ?_)
  refine lv_aload_n hx hb d_AL_add3_15 rfl (lv_at hl 1 rfl) ?_
  refine lv_iload_n hx hb d_AL_add3_16 rfl (lv_at hl 3 rfl) ?_
  refine lv_iconst (v := 1) hx hb d_AL_add3_17 (by decide) ?_
  refine zaddN (x := xn Z 2 i) (y := 1) hx hb d_AL_add3_18 ?_
  refine zput (Z' := (sn (sc (sn Z 3 i 15) 4 i (xn Z 2 i) (k + 1)) 2 i ((xn Z 2 i) + 1))) (v := .int (nI ((xn Z 2 i) + 1))) hC hd (e_list (show i < xn Z 0 3 from hi)) rfl i_AL t_AL t_AL_ok n_AL 2 (by decide) q_48 (Or.inl rfl) rfl rfl rfl (Nat.le_of_ble_eq_true rfl) (u_lsz (show i < xn Z 0 3 from hi)) d_AL_add3_19 (fun H locs hd => ?_)
  exact zgv hC hd hr hlk d_AL_add3_22 ⟨a, b, had, rfl, rfl⟩ (Nat.le_of_ble_eq_true rfl) (Nat.le_of_ble_eq_true rfl)
set_option maxHeartbeats 4000000 in
theorem c_add3_15 (l : Launch) (G : Gt) (ad0 : Nat → Nat → Nat) (ow : Nat → Nat × Nat) (Z : Zt) (i : Nat) (hi4 : i < xn Z 0 4) (h13 : 50 ≤ xn Z 0 13) (hcap : xn Z 3 i = 15) (hLI : ∀ j, 15 ≤ j → xc Z 4 i j = 0) (hel : ∀ j, j < 15 → 1 ≤ xc Z 4 i j ∧ xc Z 4 i j ≤ xn Z 0 1) (hi : i < xn Z 0 3) (hraw : xr Z 5 = none) (hsz : xn Z 2 i = 15) (k : Nat) (hk : k < xn Z 0 1) : Met l y_AL_add3 w_AL_add3 ({ frames := 5, cells := 1, slots := 22, locals := 147 }) (zPc G ad0 ow Z [.ref (ad0 3 i), .ref (ad0 1 k), .ref (ad0 4 i), .int (nI (xn Z 2 i))]) (Qg G (fun ad9 _ Z9 v9 => ∃ a b, upA (upA ad0 13 5 b) 4 i a = ad9 ∧ (sn (sc (sn Z 3 i 22) 4 i (xn Z 2 i) (k + 1)) 2 i (xn Z 2 i + 1)) = Z9 ∧ none = v9)) 1 22 (zA G) := by
  refine zopen (cc := b_AL_add3) (maxL := 4) (ret := none) (by decide) rfl (Nat.le_of_ble_eq_true rfl) ?_
  intro p e s m below meth c ls hC hr hlk hnm hd hl
  have hC : Cx G p c m s _ "java/util/ArrayList" b_AL_add3 4 := hC
  have hl : lv_has ls 4 [(0, .ref (ad0 3 i)), (1, .ref (ad0 1 k)), (2, .ref (ad0 4 i)), (3, .int (nI (xn Z 2 i)))] := hl
  have hx := hC.1
  have hb := hC.2.1
  refine lv_iload_n hx hb d_AL_add3_0 rfl (lv_at hl 3 rfl) ?_
  refine lv_aload_n hx hb d_AL_add3_1 rfl (lv_at hl 2 rfl) ?_
  refine zalen hC hd (e_elem hi4 (show xn Z 3 i ≠ 0 by omega)) 3 rfl (v := nI (xn Z 3 i)) rfl d_AL_add3_2 ?_
  refine zc_ne (x := xn Z 2 i) (y := xn Z 3 i) (tgt := 11) (by omega) (by omega) hx hb d_AL_add3_3 (by decide) (fun c3 => absurd c3 (by omega)) (fun c3 => ?_)
  refine lv_aload_n hx hb d_AL_add3_6 rfl (lv_at hl 0 rfl) ?_
  refine zbackg hd (zrunV (n := 0) (rest := []) hC hd (e_list hi) rfl (c_grow0_15 l G ad0 ow Z i hi4 h13 hcap hLI hel hi hraw hsz) q_184 q_186 qp_1 q_4 q_187 rfl rfl rfl (by decide +kernel) ⟨by decide, by decide⟩ rfl hl.1 (Nat.le_of_ble_eq_true rfl) d_AL_add3_7 ⟨by decide, by decide⟩) rfl rfl (fun ad9 ow Z9 v9 H locs hq hd => ?_)
  obtain ⟨a, b, had, rfl, rfl⟩ := hq
  have e3 : ad0 3 i = ad9 3 i := by rw [← had]; rfl
  have e1 : ad0 1 k = ad9 1 k := by rw [← had]; rfl
  have e4 : a = ad9 4 i := by rw [← had, upA_self]
  rw [e3, e1] at hl
  change W _ _ _ _ _ _ _ _ _ _ _ _ _ _ _ (F0 m 10 ls [.ref a])
  rw [e4]
  have hc0 : xn (sn Z 3 i 22) 3 i ≠ 0 := by rw [xn_sn, if_pos ⟨rfl, rfl⟩]; decide
  have hcv : xn (sn Z 3 i 22) 3 i = 22 := by rw [xn_sn, if_pos ⟨rfl, rfl⟩]
  refine lv_astore_n (lv' := [(2, .ref (ad9 4 i)), (0, .ref (ad9 3 i)), (1, .ref (ad9 1 k)), (3, .int (nI (xn Z 2 i)))]) hx hb d_AL_add3_10 rfl hl (by decide) rfl (fun ls hl => ?_)
  refine lv_aload_n hx hb d_AL_add3_11 rfl (lv_at hl 0 rfl) ?_
  refine lv_iload_n hx hb d_AL_add3_12 rfl (lv_at hl 3 rfl) ?_
  refine lv_aload_n hx hb d_AL_add3_13 rfl (lv_at hl 2 rfl) ?_
  refine zasO (j := xn Z 2 i) (Z' := (sc (sn Z 3 i 22) 4 i (xn Z 2 i) (k + 1))) hC hd (e_elem (show i < xn Z 0 4 from hi4) hc0) (e_key (show k < xn Z 0 1 from hk)) (show xn Z 2 i < xn (sn Z 3 i 22) 3 i by rw [hcv, hsz]; decide) (by rw [hcv]; decide) (u_elem (show i < xn Z 0 4 from hi4) hc0) d_AL_add3_14 (fun H locs hd => ?_)
  refine lv_aload_n hx hb d_AL_add3_15 rfl (lv_at hl 1 rfl) ?_
  refine lv_iload_n hx hb d_AL_add3_16 rfl (lv_at hl 3 rfl) ?_
  refine lv_iconst (v := 1) hx hb d_AL_add3_17 (by decide) ?_
  refine zaddN (x := xn Z 2 i) (y := 1) hx hb d_AL_add3_18 ?_
  refine zput (Z' := (sn (sc (sn Z 3 i 22) 4 i (xn Z 2 i) (k + 1)) 2 i ((xn Z 2 i) + 1))) (v := .int (nI ((xn Z 2 i) + 1))) hC hd (e_list (show i < xn Z 0 3 from hi)) rfl i_AL t_AL t_AL_ok n_AL 2 (by decide) q_48 (Or.inl rfl) rfl rfl rfl (Nat.le_of_ble_eq_true rfl) (u_lsz (show i < xn Z 0 3 from hi)) d_AL_add3_19 (fun H locs hd => ?_)
  exact zgv hC hd hr hlk d_AL_add3_22 ⟨a, b, had, rfl, rfl⟩ (Nat.le_of_ble_eq_true rfl) (Nat.le_of_ble_eq_true rfl)
set_option maxHeartbeats 4000000 in
theorem c_add3_22 (l : Launch) (G : Gt) (ad0 : Nat → Nat → Nat) (ow : Nat → Nat × Nat) (Z : Zt) (i : Nat) (hi4 : i < xn Z 0 4) (h13 : 50 ≤ xn Z 0 13) (hcap : xn Z 3 i = 22) (hLI : ∀ j, 22 ≤ j → xc Z 4 i j = 0) (hel : ∀ j, j < 22 → 1 ≤ xc Z 4 i j ∧ xc Z 4 i j ≤ xn Z 0 1) (hi : i < xn Z 0 3) (hraw : xr Z 5 = none) (hsz : xn Z 2 i = 22) (k : Nat) (hk : k < xn Z 0 1) : Met l y_AL_add3 w_AL_add3 ({ frames := 5, cells := 1, slots := 33, locals := 147 }) (zPc G ad0 ow Z [.ref (ad0 3 i), .ref (ad0 1 k), .ref (ad0 4 i), .int (nI (xn Z 2 i))]) (Qg G (fun ad9 _ Z9 v9 => ∃ a b, upA (upA ad0 13 5 b) 4 i a = ad9 ∧ (sn (sc (sn Z 3 i 33) 4 i (xn Z 2 i) (k + 1)) 2 i (xn Z 2 i + 1)) = Z9 ∧ none = v9)) 1 33 (zA G) := by
  refine zopen (cc := b_AL_add3) (maxL := 4) (ret := none) (by decide) rfl (Nat.le_of_ble_eq_true rfl) ?_
  intro p e s m below meth c ls hC hr hlk hnm hd hl
  have hC : Cx G p c m s _ "java/util/ArrayList" b_AL_add3 4 := hC
  have hl : lv_has ls 4 [(0, .ref (ad0 3 i)), (1, .ref (ad0 1 k)), (2, .ref (ad0 4 i)), (3, .int (nI (xn Z 2 i)))] := hl
  have hx := hC.1
  have hb := hC.2.1
  refine lv_iload_n hx hb d_AL_add3_0 rfl (lv_at hl 3 rfl) ?_
  refine lv_aload_n hx hb d_AL_add3_1 rfl (lv_at hl 2 rfl) ?_
  refine zalen hC hd (e_elem hi4 (show xn Z 3 i ≠ 0 by omega)) 3 rfl (v := nI (xn Z 3 i)) rfl d_AL_add3_2 ?_
  refine zc_ne (x := xn Z 2 i) (y := xn Z 3 i) (tgt := 11) (by omega) (by omega) hx hb d_AL_add3_3 (by decide) (fun c3 => absurd c3 (by omega)) (fun c3 => ?_)
  refine lv_aload_n hx hb d_AL_add3_6 rfl (lv_at hl 0 rfl) ?_
  refine zbackg hd (zrunV (n := 0) (rest := []) hC hd (e_list hi) rfl (c_grow0_22 l G ad0 ow Z i hi4 h13 hcap hLI hel hi hraw hsz) q_184 q_186 qp_1 q_4 q_187 rfl rfl rfl (by decide +kernel) ⟨by decide, by decide⟩ rfl hl.1 (Nat.le_of_ble_eq_true rfl) d_AL_add3_7 ⟨by decide, by decide⟩) rfl rfl (fun ad9 ow Z9 v9 H locs hq hd => ?_)
  obtain ⟨a, b, had, rfl, rfl⟩ := hq
  have e3 : ad0 3 i = ad9 3 i := by rw [← had]; rfl
  have e1 : ad0 1 k = ad9 1 k := by rw [← had]; rfl
  have e4 : a = ad9 4 i := by rw [← had, upA_self]
  rw [e3, e1] at hl
  change W _ _ _ _ _ _ _ _ _ _ _ _ _ _ _ (F0 m 10 ls [.ref a])
  rw [e4]
  have hc0 : xn (sn Z 3 i 33) 3 i ≠ 0 := by rw [xn_sn, if_pos ⟨rfl, rfl⟩]; decide
  have hcv : xn (sn Z 3 i 33) 3 i = 33 := by rw [xn_sn, if_pos ⟨rfl, rfl⟩]
  refine lv_astore_n (lv' := [(2, .ref (ad9 4 i)), (0, .ref (ad9 3 i)), (1, .ref (ad9 1 k)), (3, .int (nI (xn Z 2 i)))]) hx hb d_AL_add3_10 rfl hl (by decide) rfl (fun ls hl => ?_)
  refine lv_aload_n hx hb d_AL_add3_11 rfl (lv_at hl 0 rfl) ?_
  refine lv_iload_n hx hb d_AL_add3_12 rfl (lv_at hl 3 rfl) ?_
  refine lv_aload_n hx hb d_AL_add3_13 rfl (lv_at hl 2 rfl) ?_
  refine zasO (j := xn Z 2 i) (Z' := (sc (sn Z 3 i 33) 4 i (xn Z 2 i) (k + 1))) hC hd (e_elem (show i < xn Z 0 4 from hi4) hc0) (e_key (show k < xn Z 0 1 from hk)) (show xn Z 2 i < xn (sn Z 3 i 33) 3 i by rw [hcv, hsz]; decide) (by rw [hcv]; decide) (u_elem (show i < xn Z 0 4 from hi4) hc0) d_AL_add3_14 (fun H locs hd => ?_)
  refine lv_aload_n hx hb d_AL_add3_15 rfl (lv_at hl 1 rfl) ?_
  refine lv_iload_n hx hb d_AL_add3_16 rfl (lv_at hl 3 rfl) ?_
  refine lv_iconst (v := 1) hx hb d_AL_add3_17 (by decide) ?_
  refine zaddN (x := xn Z 2 i) (y := 1) hx hb d_AL_add3_18 ?_
  refine zput (Z' := (sn (sc (sn Z 3 i 33) 4 i (xn Z 2 i) (k + 1)) 2 i ((xn Z 2 i) + 1))) (v := .int (nI ((xn Z 2 i) + 1))) hC hd (e_list (show i < xn Z 0 3 from hi)) rfl i_AL t_AL t_AL_ok n_AL 2 (by decide) q_48 (Or.inl rfl) rfl rfl rfl (Nat.le_of_ble_eq_true rfl) (u_lsz (show i < xn Z 0 3 from hi)) d_AL_add3_19 (fun H locs hd => ?_)
  exact zgv hC hd hr hlk d_AL_add3_22 ⟨a, b, had, rfl, rfl⟩ (Nat.le_of_ble_eq_true rfl) (Nat.le_of_ble_eq_true rfl)
set_option maxHeartbeats 4000000 in
theorem c_add3_33 (l : Launch) (G : Gt) (ad0 : Nat → Nat → Nat) (ow : Nat → Nat × Nat) (Z : Zt) (i : Nat) (hi4 : i < xn Z 0 4) (h13 : 50 ≤ xn Z 0 13) (hcap : xn Z 3 i = 33) (hLI : ∀ j, 33 ≤ j → xc Z 4 i j = 0) (hel : ∀ j, j < 33 → 1 ≤ xc Z 4 i j ∧ xc Z 4 i j ≤ xn Z 0 1) (hi : i < xn Z 0 3) (hraw : xr Z 5 = none) (hsz : xn Z 2 i = 33) (k : Nat) (hk : k < xn Z 0 1) : Met l y_AL_add3 w_AL_add3 ({ frames := 5, cells := 1, slots := 49, locals := 147 }) (zPc G ad0 ow Z [.ref (ad0 3 i), .ref (ad0 1 k), .ref (ad0 4 i), .int (nI (xn Z 2 i))]) (Qg G (fun ad9 _ Z9 v9 => ∃ a b, upA (upA ad0 13 5 b) 4 i a = ad9 ∧ (sn (sc (sn Z 3 i 49) 4 i (xn Z 2 i) (k + 1)) 2 i (xn Z 2 i + 1)) = Z9 ∧ none = v9)) 1 49 (zA G) := by
  refine zopen (cc := b_AL_add3) (maxL := 4) (ret := none) (by decide) rfl (Nat.le_of_ble_eq_true rfl) ?_
  intro p e s m below meth c ls hC hr hlk hnm hd hl
  have hC : Cx G p c m s _ "java/util/ArrayList" b_AL_add3 4 := hC
  have hl : lv_has ls 4 [(0, .ref (ad0 3 i)), (1, .ref (ad0 1 k)), (2, .ref (ad0 4 i)), (3, .int (nI (xn Z 2 i)))] := hl
  have hx := hC.1
  have hb := hC.2.1
  refine lv_iload_n hx hb d_AL_add3_0 rfl (lv_at hl 3 rfl) ?_
  refine lv_aload_n hx hb d_AL_add3_1 rfl (lv_at hl 2 rfl) ?_
  refine zalen hC hd (e_elem hi4 (show xn Z 3 i ≠ 0 by omega)) 3 rfl (v := nI (xn Z 3 i)) rfl d_AL_add3_2 ?_
  refine zc_ne (x := xn Z 2 i) (y := xn Z 3 i) (tgt := 11) (by omega) (by omega) hx hb d_AL_add3_3 (by decide) (fun c3 => absurd c3 (by omega)) (fun c3 => ?_)
  refine lv_aload_n hx hb d_AL_add3_6 rfl (lv_at hl 0 rfl) ?_
  refine zbackg hd (zrunV (n := 0) (rest := []) hC hd (e_list hi) rfl (c_grow0_33 l G ad0 ow Z i hi4 h13 hcap hLI hel hi hraw hsz) q_184 q_186 qp_1 q_4 q_187 rfl rfl rfl (by decide +kernel) ⟨by decide, by decide⟩ rfl hl.1 (Nat.le_of_ble_eq_true rfl) d_AL_add3_7 ⟨by decide, by decide⟩) rfl rfl (fun ad9 ow Z9 v9 H locs hq hd => ?_)
  obtain ⟨a, b, had, rfl, rfl⟩ := hq
  have e3 : ad0 3 i = ad9 3 i := by rw [← had]; rfl
  have e1 : ad0 1 k = ad9 1 k := by rw [← had]; rfl
  have e4 : a = ad9 4 i := by rw [← had, upA_self]
  rw [e3, e1] at hl
  change W _ _ _ _ _ _ _ _ _ _ _ _ _ _ _ (F0 m 10 ls [.ref a])
  rw [e4]
  have hc0 : xn (sn Z 3 i 49) 3 i ≠ 0 := by rw [xn_sn, if_pos ⟨rfl, rfl⟩]; decide
  have hcv : xn (sn Z 3 i 49) 3 i = 49 := by rw [xn_sn, if_pos ⟨rfl, rfl⟩]
  refine lv_astore_n (lv' := [(2, .ref (ad9 4 i)), (0, .ref (ad9 3 i)), (1, .ref (ad9 1 k)), (3, .int (nI (xn Z 2 i)))]) hx hb d_AL_add3_10 rfl hl (by decide) rfl (fun ls hl => ?_)
  refine lv_aload_n hx hb d_AL_add3_11 rfl (lv_at hl 0 rfl) ?_
  refine lv_iload_n hx hb d_AL_add3_12 rfl (lv_at hl 3 rfl) ?_
  refine lv_aload_n hx hb d_AL_add3_13 rfl (lv_at hl 2 rfl) ?_
  refine zasO (j := xn Z 2 i) (Z' := (sc (sn Z 3 i 49) 4 i (xn Z 2 i) (k + 1))) hC hd (e_elem (show i < xn Z 0 4 from hi4) hc0) (e_key (show k < xn Z 0 1 from hk)) (show xn Z 2 i < xn (sn Z 3 i 49) 3 i by rw [hcv, hsz]; decide) (by rw [hcv]; decide) (u_elem (show i < xn Z 0 4 from hi4) hc0) d_AL_add3_14 (fun H locs hd => ?_)
  refine lv_aload_n hx hb d_AL_add3_15 rfl (lv_at hl 1 rfl) ?_
  refine lv_iload_n hx hb d_AL_add3_16 rfl (lv_at hl 3 rfl) ?_
  refine lv_iconst (v := 1) hx hb d_AL_add3_17 (by decide) ?_
  refine zaddN (x := xn Z 2 i) (y := 1) hx hb d_AL_add3_18 ?_
  refine zput (Z' := (sn (sc (sn Z 3 i 49) 4 i (xn Z 2 i) (k + 1)) 2 i ((xn Z 2 i) + 1))) (v := .int (nI ((xn Z 2 i) + 1))) hC hd (e_list (show i < xn Z 0 3 from hi)) rfl i_AL t_AL t_AL_ok n_AL 2 (by decide) q_48 (Or.inl rfl) rfl rfl rfl (Nat.le_of_ble_eq_true rfl) (u_lsz (show i < xn Z 0 3 from hi)) d_AL_add3_19 (fun H locs hd => ?_)
  exact zgv hC hd hr hlk d_AL_add3_22 ⟨a, b, had, rfl, rfl⟩ (Nat.le_of_ble_eq_true rfl) (Nat.le_of_ble_eq_true rfl)
set_option maxHeartbeats 4000000 in
theorem c_add1_n (l : Launch) (G : Gt) (ad : Nat → Nat → Nat) (ow : Nat → Nat × Nat) (Z : Zt) (i : Nat) (hi : i < xn Z 0 3) (hi4 : i < xn Z 0 4) (hlt : xn Z 2 i < xn Z 3 i) (hcn : xn Z 3 i ≤ 100) (k : Nat) (hk : k < xn Z 0 1) : Met l y_AL_add1 w_AL_add1 ({ frames := 6, cells := 1, slots := 49, locals := 170 }) (zPc G ad ow Z [.ref (ad 3 i), .ref (ad 1 k)]) (Qg G (fun ad9 _ Z9 v9 => ∃ a b, upA (upA ad 13 5 b) 4 i a = ad9 ∧ x_add Z i k = Z9 ∧ some (.int 1) = v9)) 1 49 (zA G) := by
  refine zopen (cc := b_AL_add1) (maxL := 2) (ret := (some FieldType.boolean)) (by decide) rfl (Nat.le_of_ble_eq_true rfl) ?_
  intro p e s m below meth c ls hC hr hlk hnm hd hl
  have hC : Cx G p c m s _ "java/util/ArrayList" b_AL_add1 2 := hC
  have hl : lv_has ls 2 [(0, .ref (ad 3 i)), (1, .ref (ad 1 k))] := hl
  have hx := hC.1
  have hb := hC.2.1
  refine lv_aload_n hx hb d_AL_add1_0 rfl (lv_at hl 0 rfl) ?_
  refine lv_dup hx hb d_AL_add1_1 rfl ?_
  refine zget hC hd (e_list hi) rfl i_AL 0 (by decide) q_50 (Or.inr q_51) (v := .int (xi Z 16 i)) rfl d_AL_add1_2 ?_
  refine lv_iconst (v := 1) hx hb d_AL_add1_5 (by decide) ?_
  refine lv_iadd hx hb d_AL_add1_6 ?_
  refine zput (Z' := (si Z 16 i ((xi Z 16 i) + 1))) (v := .int ((xi Z 16 i) + 1)) hC hd (e_list hi) rfl i_AL t_AL t_AL_ok n_AL 0 (by decide) q_50 (Or.inr q_51) rfl rfl rfl (Nat.le_of_ble_eq_true rfl) (u_modc hi) d_AL_add1_7 (fun H locs hd => ?_)
  refine lv_aload_n hx hb d_AL_add1_10 rfl (lv_at hl 0 rfl) ?_
  refine lv_aload_n hx hb d_AL_add1_11 rfl (lv_at hl 1 rfl) ?_
  refine lv_aload_n hx hb d_AL_add1_12 rfl (lv_at hl 0 rfl) ?_
  refine zget hC hd (e_list (show i < xn Z 0 3 from hi)) rfl i_AL 1 (by decide) q_47 (Or.inl rfl) (v := .ref (ad 4 i)) (congrArg (fun q => some (Value.ref q)) (if_neg (show ¬ xn Z 3 i = 0 by omega))) d_AL_add1_13 ?_
  refine lv_aload_n hx hb d_AL_add1_16 rfl (lv_at hl 0 rfl) ?_
  refine zget hC hd (e_list hi) rfl i_AL 2 (by decide) q_48 (Or.inl rfl) (v := .int (nI (xn Z 2 i))) rfl d_AL_add1_17 ?_
  refine zb_v hd (zrunV (n := 3) (rest := []) hC hd (e_list (show i < xn Z 0 3 from hi)) rfl (c_add3_n l G ad ow (si Z 16 i (xi Z 16 i + 1)) i hi hi4 hlt hcn k hk) q_180 q_182 qp_0 q_4 q_183 rfl rfl rfl (by decide +kernel) ⟨by decide, by decide⟩ rfl hl.1 (Nat.le_of_ble_eq_true rfl) d_AL_add1_20 ⟨by decide, by decide⟩) (fun H locs hd => ?_)
  refine lv_iconst (v := 1) hx hb d_AL_add1_23 (by decide) ?_
  refine zgz hC hd hr hlk d_AL_add1_24 (by decide) ⟨ad 4 i, ad 13 5, by rw [upA_same, upA_same], ?_, rfl⟩ (Nat.le_of_ble_eq_true rfl) (Nat.le_of_ble_eq_true rfl)
  unfold x_add x_cap; rw [if_neg (show ¬ xn Z 2 i = xn Z 3 i by omega), sn_same (Z := si Z 16 i (xi Z 16 i + 1)) (v := xn Z 3 i) rfl]; rfl
set_option maxHeartbeats 4000000 in
theorem c_add1_0 (l : Launch) (G : Gt) (ad : Nat → Nat → Nat) (ow : Nat → Nat × Nat) (Z : Zt) (i : Nat) (hi4 : i < xn Z 0 4) (h13 : 50 ≤ xn Z 0 13) (hcap : xn Z 3 i = 0) (hLI : ∀ j, 0 ≤ j → xc Z 4 i j = 0) (hel : ∀ j, j < 0 → 1 ≤ xc Z 4 i j ∧ xc Z 4 i j ≤ xn Z 0 1) (hi : i < xn Z 0 3) (hraw : xr Z 5 = none) (hsz : xn Z 2 i = 0) (k : Nat) (hk : k < xn Z 0 1) : Met l y_AL_add1 w_AL_add1 ({ frames := 6, cells := 1, slots := 49, locals := 170 }) (zPc G ad ow Z [.ref (ad 3 i), .ref (ad 1 k)]) (Qg G (fun ad9 _ Z9 v9 => ∃ a b, upA (upA ad 13 5 b) 4 i a = ad9 ∧ x_add Z i k = Z9 ∧ some (.int 1) = v9)) 1 49 (zA G) := by
  refine zopen (cc := b_AL_add1) (maxL := 2) (ret := (some FieldType.boolean)) (by decide) rfl (Nat.le_of_ble_eq_true rfl) ?_
  intro p e s m below meth c ls hC hr hlk hnm hd hl
  have hC : Cx G p c m s _ "java/util/ArrayList" b_AL_add1 2 := hC
  have hl : lv_has ls 2 [(0, .ref (ad 3 i)), (1, .ref (ad 1 k))] := hl
  have hx := hC.1
  have hb := hC.2.1
  refine lv_aload_n hx hb d_AL_add1_0 rfl (lv_at hl 0 rfl) ?_
  refine lv_dup hx hb d_AL_add1_1 rfl ?_
  refine zget hC hd (e_list hi) rfl i_AL 0 (by decide) q_50 (Or.inr q_51) (v := .int (xi Z 16 i)) rfl d_AL_add1_2 ?_
  refine lv_iconst (v := 1) hx hb d_AL_add1_5 (by decide) ?_
  refine lv_iadd hx hb d_AL_add1_6 ?_
  refine zput (Z' := (si Z 16 i ((xi Z 16 i) + 1))) (v := .int ((xi Z 16 i) + 1)) hC hd (e_list hi) rfl i_AL t_AL t_AL_ok n_AL 0 (by decide) q_50 (Or.inr q_51) rfl rfl rfl (Nat.le_of_ble_eq_true rfl) (u_modc hi) d_AL_add1_7 (fun H locs hd => ?_)
  refine lv_aload_n hx hb d_AL_add1_10 rfl (lv_at hl 0 rfl) ?_
  refine lv_aload_n hx hb d_AL_add1_11 rfl (lv_at hl 1 rfl) ?_
  refine lv_aload_n hx hb d_AL_add1_12 rfl (lv_at hl 0 rfl) ?_
  refine zget hC hd (e_list (show i < xn Z 0 3 from hi)) rfl i_AL 1 (by decide) q_47 (Or.inl rfl) (v := .ref (ge G)) (congrArg (fun q => some (Value.ref q)) (if_pos (show xn Z 3 i = 0 from hcap))) d_AL_add1_13 ?_
  refine lv_aload_n hx hb d_AL_add1_16 rfl (lv_at hl 0 rfl) ?_
  refine zget hC hd (e_list hi) rfl i_AL 2 (by decide) q_48 (Or.inl rfl) (v := .int (nI (xn Z 2 i))) rfl d_AL_add1_17 ?_
  refine zbackg hd (zrunV (n := 3) (rest := []) hC hd (e_list (show i < xn Z 0 3 from hi)) rfl (c_add3_0 l G ad ow (si Z 16 i (xi Z 16 i + 1)) i hi4 h13 hcap hLI hel hi hraw hsz k hk) q_180 q_182 qp_0 q_4 q_183 rfl rfl rfl (by decide +kernel) ⟨by decide, by decide⟩ rfl hl.1 (Nat.le_of_ble_eq_true rfl) d_AL_add1_20 ⟨by decide, by decide⟩) rfl rfl (fun ad9 ow Z9 v9 H locs hq hd => ?_)
  obtain ⟨a, b, had, rfl, rfl⟩ := hq
  change W _ _ _ _ _ _ _ _ _ _ _ _ _ _ _ (F0 m 23 ls [])
  refine lv_iconst (v := 1) hx hb d_AL_add1_23 (by decide) ?_
  refine zgz hC hd hr hlk d_AL_add1_24 (by decide) ⟨a, b, had, ?_, rfl⟩ (Nat.le_of_ble_eq_true rfl) (Nat.le_of_ble_eq_true rfl)
  unfold x_add x_cap; rw [if_pos (show xn Z 2 i = xn Z 3 i by omega), hcap]; rfl
set_option maxHeartbeats 4000000 in
theorem c_add1_10 (l : Launch) (G : Gt) (ad : Nat → Nat → Nat) (ow : Nat → Nat × Nat) (Z : Zt) (i : Nat) (hi4 : i < xn Z 0 4) (h13 : 50 ≤ xn Z 0 13) (hcap : xn Z 3 i = 10) (hLI : ∀ j, 10 ≤ j → xc Z 4 i j = 0) (hel : ∀ j, j < 10 → 1 ≤ xc Z 4 i j ∧ xc Z 4 i j ≤ xn Z 0 1) (hi : i < xn Z 0 3) (hraw : xr Z 5 = none) (hsz : xn Z 2 i = 10) (k : Nat) (hk : k < xn Z 0 1) : Met l y_AL_add1 w_AL_add1 ({ frames := 6, cells := 1, slots := 49, locals := 170 }) (zPc G ad ow Z [.ref (ad 3 i), .ref (ad 1 k)]) (Qg G (fun ad9 _ Z9 v9 => ∃ a b, upA (upA ad 13 5 b) 4 i a = ad9 ∧ x_add Z i k = Z9 ∧ some (.int 1) = v9)) 1 49 (zA G) := by
  refine zopen (cc := b_AL_add1) (maxL := 2) (ret := (some FieldType.boolean)) (by decide) rfl (Nat.le_of_ble_eq_true rfl) ?_
  intro p e s m below meth c ls hC hr hlk hnm hd hl
  have hC : Cx G p c m s _ "java/util/ArrayList" b_AL_add1 2 := hC
  have hl : lv_has ls 2 [(0, .ref (ad 3 i)), (1, .ref (ad 1 k))] := hl
  have hx := hC.1
  have hb := hC.2.1
  refine lv_aload_n hx hb d_AL_add1_0 rfl (lv_at hl 0 rfl) ?_
  refine lv_dup hx hb d_AL_add1_1 rfl ?_
  refine zget hC hd (e_list hi) rfl i_AL 0 (by decide) q_50 (Or.inr q_51) (v := .int (xi Z 16 i)) rfl d_AL_add1_2 ?_
  refine lv_iconst (v := 1) hx hb d_AL_add1_5 (by decide) ?_
  refine lv_iadd hx hb d_AL_add1_6 ?_
  refine zput (Z' := (si Z 16 i ((xi Z 16 i) + 1))) (v := .int ((xi Z 16 i) + 1)) hC hd (e_list hi) rfl i_AL t_AL t_AL_ok n_AL 0 (by decide) q_50 (Or.inr q_51) rfl rfl rfl (Nat.le_of_ble_eq_true rfl) (u_modc hi) d_AL_add1_7 (fun H locs hd => ?_)
  refine lv_aload_n hx hb d_AL_add1_10 rfl (lv_at hl 0 rfl) ?_
  refine lv_aload_n hx hb d_AL_add1_11 rfl (lv_at hl 1 rfl) ?_
  refine lv_aload_n hx hb d_AL_add1_12 rfl (lv_at hl 0 rfl) ?_
  refine zget hC hd (e_list (show i < xn Z 0 3 from hi)) rfl i_AL 1 (by decide) q_47 (Or.inl rfl) (v := .ref (ad 4 i)) (congrArg (fun q => some (Value.ref q)) (if_neg (show ¬ xn Z 3 i = 0 by omega))) d_AL_add1_13 ?_
  refine lv_aload_n hx hb d_AL_add1_16 rfl (lv_at hl 0 rfl) ?_
  refine zget hC hd (e_list hi) rfl i_AL 2 (by decide) q_48 (Or.inl rfl) (v := .int (nI (xn Z 2 i))) rfl d_AL_add1_17 ?_
  refine zbackg hd (zrunV (n := 3) (rest := []) hC hd (e_list (show i < xn Z 0 3 from hi)) rfl (c_add3_10 l G ad ow (si Z 16 i (xi Z 16 i + 1)) i hi4 h13 hcap hLI hel hi hraw hsz k hk) q_180 q_182 qp_0 q_4 q_183 rfl rfl rfl (by decide +kernel) ⟨by decide, by decide⟩ rfl hl.1 (Nat.le_of_ble_eq_true rfl) d_AL_add1_20 ⟨by decide, by decide⟩) rfl rfl (fun ad9 ow Z9 v9 H locs hq hd => ?_)
  obtain ⟨a, b, had, rfl, rfl⟩ := hq
  change W _ _ _ _ _ _ _ _ _ _ _ _ _ _ _ (F0 m 23 ls [])
  refine lv_iconst (v := 1) hx hb d_AL_add1_23 (by decide) ?_
  refine zgz hC hd hr hlk d_AL_add1_24 (by decide) ⟨a, b, had, ?_, rfl⟩ (Nat.le_of_ble_eq_true rfl) (Nat.le_of_ble_eq_true rfl)
  unfold x_add x_cap; rw [if_pos (show xn Z 2 i = xn Z 3 i by omega), hcap]; rfl
set_option maxHeartbeats 4000000 in
theorem c_add1_15 (l : Launch) (G : Gt) (ad : Nat → Nat → Nat) (ow : Nat → Nat × Nat) (Z : Zt) (i : Nat) (hi4 : i < xn Z 0 4) (h13 : 50 ≤ xn Z 0 13) (hcap : xn Z 3 i = 15) (hLI : ∀ j, 15 ≤ j → xc Z 4 i j = 0) (hel : ∀ j, j < 15 → 1 ≤ xc Z 4 i j ∧ xc Z 4 i j ≤ xn Z 0 1) (hi : i < xn Z 0 3) (hraw : xr Z 5 = none) (hsz : xn Z 2 i = 15) (k : Nat) (hk : k < xn Z 0 1) : Met l y_AL_add1 w_AL_add1 ({ frames := 6, cells := 1, slots := 49, locals := 170 }) (zPc G ad ow Z [.ref (ad 3 i), .ref (ad 1 k)]) (Qg G (fun ad9 _ Z9 v9 => ∃ a b, upA (upA ad 13 5 b) 4 i a = ad9 ∧ x_add Z i k = Z9 ∧ some (.int 1) = v9)) 1 49 (zA G) := by
  refine zopen (cc := b_AL_add1) (maxL := 2) (ret := (some FieldType.boolean)) (by decide) rfl (Nat.le_of_ble_eq_true rfl) ?_
  intro p e s m below meth c ls hC hr hlk hnm hd hl
  have hC : Cx G p c m s _ "java/util/ArrayList" b_AL_add1 2 := hC
  have hl : lv_has ls 2 [(0, .ref (ad 3 i)), (1, .ref (ad 1 k))] := hl
  have hx := hC.1
  have hb := hC.2.1
  refine lv_aload_n hx hb d_AL_add1_0 rfl (lv_at hl 0 rfl) ?_
  refine lv_dup hx hb d_AL_add1_1 rfl ?_
  refine zget hC hd (e_list hi) rfl i_AL 0 (by decide) q_50 (Or.inr q_51) (v := .int (xi Z 16 i)) rfl d_AL_add1_2 ?_
  refine lv_iconst (v := 1) hx hb d_AL_add1_5 (by decide) ?_
  refine lv_iadd hx hb d_AL_add1_6 ?_
  refine zput (Z' := (si Z 16 i ((xi Z 16 i) + 1))) (v := .int ((xi Z 16 i) + 1)) hC hd (e_list hi) rfl i_AL t_AL t_AL_ok n_AL 0 (by decide) q_50 (Or.inr q_51) rfl rfl rfl (Nat.le_of_ble_eq_true rfl) (u_modc hi) d_AL_add1_7 (fun H locs hd => ?_)
  refine lv_aload_n hx hb d_AL_add1_10 rfl (lv_at hl 0 rfl) ?_
  refine lv_aload_n hx hb d_AL_add1_11 rfl (lv_at hl 1 rfl) ?_
  refine lv_aload_n hx hb d_AL_add1_12 rfl (lv_at hl 0 rfl) ?_
  refine zget hC hd (e_list (show i < xn Z 0 3 from hi)) rfl i_AL 1 (by decide) q_47 (Or.inl rfl) (v := .ref (ad 4 i)) (congrArg (fun q => some (Value.ref q)) (if_neg (show ¬ xn Z 3 i = 0 by omega))) d_AL_add1_13 ?_
  refine lv_aload_n hx hb d_AL_add1_16 rfl (lv_at hl 0 rfl) ?_
  refine zget hC hd (e_list hi) rfl i_AL 2 (by decide) q_48 (Or.inl rfl) (v := .int (nI (xn Z 2 i))) rfl d_AL_add1_17 ?_
  refine zbackg hd (zrunV (n := 3) (rest := []) hC hd (e_list (show i < xn Z 0 3 from hi)) rfl (c_add3_15 l G ad ow (si Z 16 i (xi Z 16 i + 1)) i hi4 h13 hcap hLI hel hi hraw hsz k hk) q_180 q_182 qp_0 q_4 q_183 rfl rfl rfl (by decide +kernel) ⟨by decide, by decide⟩ rfl hl.1 (Nat.le_of_ble_eq_true rfl) d_AL_add1_20 ⟨by decide, by decide⟩) rfl rfl (fun ad9 ow Z9 v9 H locs hq hd => ?_)
  obtain ⟨a, b, had, rfl, rfl⟩ := hq
  change W _ _ _ _ _ _ _ _ _ _ _ _ _ _ _ (F0 m 23 ls [])
  refine lv_iconst (v := 1) hx hb d_AL_add1_23 (by decide) ?_
  refine zgz hC hd hr hlk d_AL_add1_24 (by decide) ⟨a, b, had, ?_, rfl⟩ (Nat.le_of_ble_eq_true rfl) (Nat.le_of_ble_eq_true rfl)
  unfold x_add x_cap; rw [if_pos (show xn Z 2 i = xn Z 3 i by omega), hcap]; rfl
set_option maxHeartbeats 4000000 in
theorem c_add1_22 (l : Launch) (G : Gt) (ad : Nat → Nat → Nat) (ow : Nat → Nat × Nat) (Z : Zt) (i : Nat) (hi4 : i < xn Z 0 4) (h13 : 50 ≤ xn Z 0 13) (hcap : xn Z 3 i = 22) (hLI : ∀ j, 22 ≤ j → xc Z 4 i j = 0) (hel : ∀ j, j < 22 → 1 ≤ xc Z 4 i j ∧ xc Z 4 i j ≤ xn Z 0 1) (hi : i < xn Z 0 3) (hraw : xr Z 5 = none) (hsz : xn Z 2 i = 22) (k : Nat) (hk : k < xn Z 0 1) : Met l y_AL_add1 w_AL_add1 ({ frames := 6, cells := 1, slots := 49, locals := 170 }) (zPc G ad ow Z [.ref (ad 3 i), .ref (ad 1 k)]) (Qg G (fun ad9 _ Z9 v9 => ∃ a b, upA (upA ad 13 5 b) 4 i a = ad9 ∧ x_add Z i k = Z9 ∧ some (.int 1) = v9)) 1 49 (zA G) := by
  refine zopen (cc := b_AL_add1) (maxL := 2) (ret := (some FieldType.boolean)) (by decide) rfl (Nat.le_of_ble_eq_true rfl) ?_
  intro p e s m below meth c ls hC hr hlk hnm hd hl
  have hC : Cx G p c m s _ "java/util/ArrayList" b_AL_add1 2 := hC
  have hl : lv_has ls 2 [(0, .ref (ad 3 i)), (1, .ref (ad 1 k))] := hl
  have hx := hC.1
  have hb := hC.2.1
  refine lv_aload_n hx hb d_AL_add1_0 rfl (lv_at hl 0 rfl) ?_
  refine lv_dup hx hb d_AL_add1_1 rfl ?_
  refine zget hC hd (e_list hi) rfl i_AL 0 (by decide) q_50 (Or.inr q_51) (v := .int (xi Z 16 i)) rfl d_AL_add1_2 ?_
  refine lv_iconst (v := 1) hx hb d_AL_add1_5 (by decide) ?_
  refine lv_iadd hx hb d_AL_add1_6 ?_
  refine zput (Z' := (si Z 16 i ((xi Z 16 i) + 1))) (v := .int ((xi Z 16 i) + 1)) hC hd (e_list hi) rfl i_AL t_AL t_AL_ok n_AL 0 (by decide) q_50 (Or.inr q_51) rfl rfl rfl (Nat.le_of_ble_eq_true rfl) (u_modc hi) d_AL_add1_7 (fun H locs hd => ?_)
  refine lv_aload_n hx hb d_AL_add1_10 rfl (lv_at hl 0 rfl) ?_
  refine lv_aload_n hx hb d_AL_add1_11 rfl (lv_at hl 1 rfl) ?_
  refine lv_aload_n hx hb d_AL_add1_12 rfl (lv_at hl 0 rfl) ?_
  refine zget hC hd (e_list (show i < xn Z 0 3 from hi)) rfl i_AL 1 (by decide) q_47 (Or.inl rfl) (v := .ref (ad 4 i)) (congrArg (fun q => some (Value.ref q)) (if_neg (show ¬ xn Z 3 i = 0 by omega))) d_AL_add1_13 ?_
  refine lv_aload_n hx hb d_AL_add1_16 rfl (lv_at hl 0 rfl) ?_
  refine zget hC hd (e_list hi) rfl i_AL 2 (by decide) q_48 (Or.inl rfl) (v := .int (nI (xn Z 2 i))) rfl d_AL_add1_17 ?_
  refine zbackg hd (zrunV (n := 3) (rest := []) hC hd (e_list (show i < xn Z 0 3 from hi)) rfl (c_add3_22 l G ad ow (si Z 16 i (xi Z 16 i + 1)) i hi4 h13 hcap hLI hel hi hraw hsz k hk) q_180 q_182 qp_0 q_4 q_183 rfl rfl rfl (by decide +kernel) ⟨by decide, by decide⟩ rfl hl.1 (Nat.le_of_ble_eq_true rfl) d_AL_add1_20 ⟨by decide, by decide⟩) rfl rfl (fun ad9 ow Z9 v9 H locs hq hd => ?_)
  obtain ⟨a, b, had, rfl, rfl⟩ := hq
  change W _ _ _ _ _ _ _ _ _ _ _ _ _ _ _ (F0 m 23 ls [])
  refine lv_iconst (v := 1) hx hb d_AL_add1_23 (by decide) ?_
  refine zgz hC hd hr hlk d_AL_add1_24 (by decide) ⟨a, b, had, ?_, rfl⟩ (Nat.le_of_ble_eq_true rfl) (Nat.le_of_ble_eq_true rfl)
  unfold x_add x_cap; rw [if_pos (show xn Z 2 i = xn Z 3 i by omega), hcap]; rfl
set_option maxHeartbeats 4000000 in
theorem c_add1_33 (l : Launch) (G : Gt) (ad : Nat → Nat → Nat) (ow : Nat → Nat × Nat) (Z : Zt) (i : Nat) (hi4 : i < xn Z 0 4) (h13 : 50 ≤ xn Z 0 13) (hcap : xn Z 3 i = 33) (hLI : ∀ j, 33 ≤ j → xc Z 4 i j = 0) (hel : ∀ j, j < 33 → 1 ≤ xc Z 4 i j ∧ xc Z 4 i j ≤ xn Z 0 1) (hi : i < xn Z 0 3) (hraw : xr Z 5 = none) (hsz : xn Z 2 i = 33) (k : Nat) (hk : k < xn Z 0 1) : Met l y_AL_add1 w_AL_add1 ({ frames := 6, cells := 1, slots := 49, locals := 170 }) (zPc G ad ow Z [.ref (ad 3 i), .ref (ad 1 k)]) (Qg G (fun ad9 _ Z9 v9 => ∃ a b, upA (upA ad 13 5 b) 4 i a = ad9 ∧ x_add Z i k = Z9 ∧ some (.int 1) = v9)) 1 49 (zA G) := by
  refine zopen (cc := b_AL_add1) (maxL := 2) (ret := (some FieldType.boolean)) (by decide) rfl (Nat.le_of_ble_eq_true rfl) ?_
  intro p e s m below meth c ls hC hr hlk hnm hd hl
  have hC : Cx G p c m s _ "java/util/ArrayList" b_AL_add1 2 := hC
  have hl : lv_has ls 2 [(0, .ref (ad 3 i)), (1, .ref (ad 1 k))] := hl
  have hx := hC.1
  have hb := hC.2.1
  refine lv_aload_n hx hb d_AL_add1_0 rfl (lv_at hl 0 rfl) ?_
  refine lv_dup hx hb d_AL_add1_1 rfl ?_
  refine zget hC hd (e_list hi) rfl i_AL 0 (by decide) q_50 (Or.inr q_51) (v := .int (xi Z 16 i)) rfl d_AL_add1_2 ?_
  refine lv_iconst (v := 1) hx hb d_AL_add1_5 (by decide) ?_
  refine lv_iadd hx hb d_AL_add1_6 ?_
  refine zput (Z' := (si Z 16 i ((xi Z 16 i) + 1))) (v := .int ((xi Z 16 i) + 1)) hC hd (e_list hi) rfl i_AL t_AL t_AL_ok n_AL 0 (by decide) q_50 (Or.inr q_51) rfl rfl rfl (Nat.le_of_ble_eq_true rfl) (u_modc hi) d_AL_add1_7 (fun H locs hd => ?_)
  refine lv_aload_n hx hb d_AL_add1_10 rfl (lv_at hl 0 rfl) ?_
  refine lv_aload_n hx hb d_AL_add1_11 rfl (lv_at hl 1 rfl) ?_
  refine lv_aload_n hx hb d_AL_add1_12 rfl (lv_at hl 0 rfl) ?_
  refine zget hC hd (e_list (show i < xn Z 0 3 from hi)) rfl i_AL 1 (by decide) q_47 (Or.inl rfl) (v := .ref (ad 4 i)) (congrArg (fun q => some (Value.ref q)) (if_neg (show ¬ xn Z 3 i = 0 by omega))) d_AL_add1_13 ?_
  refine lv_aload_n hx hb d_AL_add1_16 rfl (lv_at hl 0 rfl) ?_
  refine zget hC hd (e_list hi) rfl i_AL 2 (by decide) q_48 (Or.inl rfl) (v := .int (nI (xn Z 2 i))) rfl d_AL_add1_17 ?_
  refine zbackg hd (zrunV (n := 3) (rest := []) hC hd (e_list (show i < xn Z 0 3 from hi)) rfl (c_add3_33 l G ad ow (si Z 16 i (xi Z 16 i + 1)) i hi4 h13 hcap hLI hel hi hraw hsz k hk) q_180 q_182 qp_0 q_4 q_183 rfl rfl rfl (by decide +kernel) ⟨by decide, by decide⟩ rfl hl.1 (Nat.le_of_ble_eq_true rfl) d_AL_add1_20 ⟨by decide, by decide⟩) rfl rfl (fun ad9 ow Z9 v9 H locs hq hd => ?_)
  obtain ⟨a, b, had, rfl, rfl⟩ := hq
  change W _ _ _ _ _ _ _ _ _ _ _ _ _ _ _ (F0 m 23 ls [])
  refine lv_iconst (v := 1) hx hb d_AL_add1_23 (by decide) ?_
  refine zgz hC hd hr hlk d_AL_add1_24 (by decide) ⟨a, b, had, ?_, rfl⟩ (Nat.le_of_ble_eq_true rfl) (Nat.le_of_ble_eq_true rfl)
  unfold x_add x_cap; rw [if_pos (show xn Z 2 i = xn Z 3 i by omega), hcap]; rfl
theorem c_AL_add1 (l : Launch) (G : Gt) (ad : Nat → Nat → Nat) (ow : Nat → Nat × Nat) (Z : Zt) (i k : Nat) (ha : AddPre Z i) (hk : k < xn Z 0 1) : Met l y_AL_add1 w_AL_add1 ({ frames := 6, cells := 1, slots := 49, locals := 170 }) (zPc G ad ow Z [.ref (ad 3 i), .ref (ad 1 k)]) (Qg G (fun ad9 _ Z9 v9 => ∃ a b, upA (upA ad 13 5 b) 4 i a = ad9 ∧ x_add Z i k = Z9 ∧ some (.int 1) = v9)) 1 49 (zA G) := by
  obtain ⟨⟨hi, hi4, h13, hraw⟩, hc, ⟨hs1, hs2⟩, hLI, hel⟩ := ha
  by_cases hlt : xn Z 2 i < xn Z 3 i
  · exact c_add1_n l G ad ow Z i hi hi4 hlt (by omega) k hk
  · have hsz : xn Z 2 i = xn Z 3 i := by omega
    rw [hsz] at hLI hel hs2
    rcases hc with h | h | h | h | h | h <;> rw [h] at hLI hel hs2 hsz
    · exact c_add1_0 l G ad ow Z i hi4 h13 h hLI hel hi hraw hsz k hk
    · exact c_add1_10 l G ad ow Z i hi4 h13 h hLI hel hi hraw hsz k hk
    · exact c_add1_15 l G ad ow Z i hi4 h13 h hLI hel hi hraw hsz k hk
    · exact c_add1_22 l G ad ow Z i hi4 h13 h hLI hel hi hraw hsz k hk
    · exact c_add1_33 l G ad ow Z i hi4 h13 h hLI hel hi hraw hsz k hk
    · omega
def x_nul (i : Nat) : Zt → Nat → Nat → Zt
  | Z, _, 0 => Z
  | Z, j, n + 1 => x_nul i (sc Z 4 i j 0) (j + 1) n
def x_clear (Z : Zt) (i : Nat) : Zt := x_nul i (sn (si Z 16 i (xi Z 16 i + 1)) 2 i 0) 0 (xn Z 2 i)
set_option maxHeartbeats 4000000 in
theorem lp_AL_clear {p : Program} {l : Launch} {e : Env} {s : State} {m : MethodId} {args : Array Value} {below : List Frame} {meth : Method} {c : Code} {Q : State → Prop} {G : Gt} {ad : Nat → Nat → Nat} {ow : Nat → Nat × Nat} (i N : Nat) (hN : N ≤ 100) (hC : Cx G p c m s args "java/util/ArrayList" b_AL_clear 4) : ∀ (n j : Nat) (Z : Zt) (ls : Array Slot) (H : Heap) (locs : List Loc), j + n = N → i < xn Z 0 4 → N ≤ xn Z 3 i → xn Z 3 i ≤ 100 → xn Z 3 i ≠ 0 → Dy G ad ow Z s H locs → lv_has ls 4 [(3, .int (nI j)), (2, .int (nI N)), (1, .ref (ad 4 i)), (0, .ref (ad 3 i))] → (∀ (ls : Array Slot) (H : Heap) (locs : List Loc), Dy G ad ow (x_nul i Z j n) s H locs → W p l e ({ frames := 0, cells := 0, slots := 0, locals := 0 } : Room) s m args below meth c H locs 0 0 Q (F0 m 42 ls [])) → W p l e ({ frames := 0, cells := 0, slots := 0, locals := 0 } : Room) s m args below meth c H locs 0 0 Q (F0 m 27 ls []) := by
  have hx := hC.1
  have hb := hC.2.1
  intro n
  induction n with
  | zero =>
    intro j Z ls H locs hj hi4 hcN hcn hc0 hd hl kk
    refine lv_iload_n hx hb d_AL_clear_27 rfl (lv_at hl 0 rfl) ?_
    refine lv_iload_n hx hb d_AL_clear_28 rfl (lv_at hl 1 rfl) ?_
    refine zc_ge (x := j) (y := N) (tgt := 42) (by omega) (by omega) hx hb d_AL_clear_29 (by decide) (fun c29 => ?_) (fun c29 => absurd hj (by omega))
    exact kk ls H locs hd
  | succ n ih =>
    intro j Z ls H locs hj hi4 hcN hcn hc0 hd hl kk
    refine lv_iload_n hx hb d_AL_clear_27 rfl (lv_at hl 0 rfl) ?_
    refine lv_iload_n hx hb d_AL_clear_28 rfl (lv_at hl 1 rfl) ?_
    refine zc_ge (x := j) (y := N) (tgt := 42) (by omega) (by omega) hx hb d_AL_clear_29 (by decide) (fun c29 => absurd hj (by omega)) (fun c29 => ?_)
    refine lv_aload_n hx hb d_AL_clear_32 rfl (lv_at hl 2 rfl) ?_
    refine lv_iload_n hx hb d_AL_clear_33 rfl (lv_at hl 0 rfl) ?_
    refine lv_null hx hb d_AL_clear_34 ?_
    refine zasN (j := j) (Z' := (sc Z 4 i j 0)) hC hd (e_elem hi4 hc0) (by omega) (by omega) (u_elemN hi4 hc0) d_AL_clear_35 (fun H locs hd => ?_)
    refine lv_iinc (v := (nI (j + 1))) (lv' := [(3, .int (nI (j + 1))), (2, .int (nI N)), (1, .ref (ad 4 i)), (0, .ref (ad 3 i))]) hx hb d_AL_clear_36 hl (k := 0) rfl (by rw [show Int32.ofInt 1 = nI 1 from by decide]; exact nI_add _ _) (by decide) rfl (fun ls hl => ?_)
    refine lv_goto (tgt := 27) hx hb d_AL_clear_39 (by decide) ?_
    exact ih (j + 1) (sc Z 4 i j 0) ls H locs (by omega) hi4 hcN hcn hc0 hd (lv_sub hl [0, 1, 2, 3] rfl) kk
set_option maxHeartbeats 4000000 in
theorem c_AL_clear_0 (l : Launch) (G : Gt) (ad : Nat → Nat → Nat) (ow : Nat → Nat × Nat) (Z : Zt) (i : Nat) (hi : i < xn Z 0 3) (hcap : xn Z 3 i = 0) (hsz : xn Z 2 i = 0) : Met l y_AL_clear w_AL_clear ({ frames := 0, cells := 0, slots := 0, locals := 0 }) (zPc G ad ow Z [.ref (ad 3 i)]) (Qd G ad ow (x_clear Z i) (none)) 0 0 (zA G) := by
  refine zopen (cc := b_AL_clear) (maxL := 4) (ret := none) (by decide) rfl (Nat.le_of_ble_eq_true rfl) ?_
  intro p e s m below meth c ls hC hr hlk hnm hd hl
  have hC : Cx G p c m s _ "java/util/ArrayList" b_AL_clear 4 := hC
  have hl : lv_has ls 4 [(0, .ref (ad 3 i))] := hl
  have hx := hC.1
  have hb := hC.2.1
  refine lv_aload_n hx hb d_AL_clear_0 rfl (lv_at hl 0 rfl) ?_
  refine lv_dup hx hb d_AL_clear_1 rfl ?_
  refine zget hC hd (e_list hi) rfl i_AL 0 (by decide) q_50 (Or.inr q_51) (v := .int (xi Z 16 i)) rfl d_AL_clear_2 ?_
  refine lv_iconst (v := 1) hx hb d_AL_clear_5 (by decide) ?_
  refine lv_iadd hx hb d_AL_clear_6 ?_
  refine zput (Z' := (si Z 16 i ((xi Z 16 i) + 1))) (v := .int ((xi Z 16 i) + 1)) hC hd (e_list hi) rfl i_AL t_AL t_AL_ok n_AL 0 (by decide) q_50 (Or.inr q_51) rfl rfl rfl (Nat.le_of_ble_eq_true rfl) (u_modc hi) d_AL_clear_7 (fun H locs hd => ?_)
  refine lv_aload_n hx hb d_AL_clear_10 rfl (lv_at hl 0 rfl) ?_
  refine zget hC hd (e_list (show i < xn Z 0 3 from hi)) rfl i_AL 1 (by decide) q_47 (Or.inl rfl) (v := .ref (ge G)) (congrArg (fun q => some (Value.ref q)) (if_pos (show xn Z 3 i = 0 from hcap))) d_AL_clear_11 ?_
  refine lv_astore_n (lv' := [(1, .ref (ge G)), (0, .ref (ad 3 i))]) hx hb d_AL_clear_14 rfl hl (by decide) rfl (fun ls hl => ?_)
  refine lv_aload_n hx hb d_AL_clear_15 rfl (lv_at hl 1 rfl) ?_
  refine zget hC hd (e_list hi) rfl i_AL 2 (by decide) q_48 (Or.inl rfl) (v := .int (nI (xn Z 2 i))) rfl d_AL_clear_16 ?_
  refine lv_istore_n (lv' := [(2, .int (nI (xn Z 2 i))), (1, .ref (ge G)), (0, .ref (ad 3 i))]) hx hb d_AL_clear_19 rfl hl (by decide) rfl (fun ls hl => ?_)
  refine lv_aload_n hx hb d_AL_clear_20 rfl (lv_at hl 2 rfl) ?_
  refine lv_iconst (v := 0) hx hb d_AL_clear_21 (by decide) ?_
  refine lv_dup_x1 hx hb d_AL_clear_22 rfl rfl ?_
  refine zput (Z' := (sn (si Z 16 i ((xi Z 16 i) + 1)) 2 i 0)) (v := .int 0) hC hd (e_list hi) rfl i_AL t_AL t_AL_ok n_AL 2 (by decide) q_48 (Or.inl rfl) rfl rfl rfl (Nat.le_of_ble_eq_true rfl) (u_lsz hi) d_AL_clear_23 (fun H locs hd => ?_)
  refine lv_istore_n (lv' := [(3, .int 0), (2, .int (nI (xn Z 2 i))), (1, .ref (ge G)), (0, .ref (ad 3 i))]) hx hb d_AL_clear_26 rfl hl (by decide) rfl (fun ls hl => ?_)
  refine lv_iload_n hx hb d_AL_clear_27 rfl (lv_at hl 0 rfl) ?_
  refine lv_iload_n hx hb d_AL_clear_28 rfl (lv_at hl 1 rfl) ?_
  refine zc_ge (x := 0) (y := xn Z 2 i) (tgt := 42) (by omega) (by omega) hx hb d_AL_clear_29 (by decide) (fun c29 => ?_) (fun c29 => absurd c29 (by omega))
  exact zfv hC hd hr hlk d_AL_clear_42 (by unfold x_clear; rw [hsz]; rfl)
set_option maxHeartbeats 4000000 in
theorem c_AL_clear_n (l : Launch) (G : Gt) (ad : Nat → Nat → Nat) (ow : Nat → Nat × Nat) (Z : Zt) (i : Nat) (hi : i < xn Z 0 3) (hi4 : i < xn Z 0 4) (hle : xn Z 2 i ≤ xn Z 3 i) (hcn : xn Z 3 i ≤ 100) (hcap : ¬ xn Z 3 i = 0) : Met l y_AL_clear w_AL_clear ({ frames := 0, cells := 0, slots := 0, locals := 0 }) (zPc G ad ow Z [.ref (ad 3 i)]) (Qd G ad ow (x_clear Z i) (none)) 0 0 (zA G) := by
  refine zopen (cc := b_AL_clear) (maxL := 4) (ret := none) (by decide) rfl (Nat.le_of_ble_eq_true rfl) ?_
  intro p e s m below meth c ls hC hr hlk hnm hd hl
  have hC : Cx G p c m s _ "java/util/ArrayList" b_AL_clear 4 := hC
  have hl : lv_has ls 4 [(0, .ref (ad 3 i))] := hl
  have hx := hC.1
  have hb := hC.2.1
  refine lv_aload_n hx hb d_AL_clear_0 rfl (lv_at hl 0 rfl) ?_
  refine lv_dup hx hb d_AL_clear_1 rfl ?_
  refine zget hC hd (e_list hi) rfl i_AL 0 (by decide) q_50 (Or.inr q_51) (v := .int (xi Z 16 i)) rfl d_AL_clear_2 ?_
  refine lv_iconst (v := 1) hx hb d_AL_clear_5 (by decide) ?_
  refine lv_iadd hx hb d_AL_clear_6 ?_
  refine zput (Z' := (si Z 16 i ((xi Z 16 i) + 1))) (v := .int ((xi Z 16 i) + 1)) hC hd (e_list hi) rfl i_AL t_AL t_AL_ok n_AL 0 (by decide) q_50 (Or.inr q_51) rfl rfl rfl (Nat.le_of_ble_eq_true rfl) (u_modc hi) d_AL_clear_7 (fun H locs hd => ?_)
  refine lv_aload_n hx hb d_AL_clear_10 rfl (lv_at hl 0 rfl) ?_
  refine zget hC hd (e_list (show i < xn Z 0 3 from hi)) rfl i_AL 1 (by decide) q_47 (Or.inl rfl) (v := .ref (ad 4 i)) (congrArg (fun q => some (Value.ref q)) (if_neg hcap)) d_AL_clear_11 ?_
  refine lv_astore_n (lv' := [(1, .ref (ad 4 i)), (0, .ref (ad 3 i))]) hx hb d_AL_clear_14 rfl hl (by decide) rfl (fun ls hl => ?_)
  refine lv_aload_n hx hb d_AL_clear_15 rfl (lv_at hl 1 rfl) ?_
  refine zget hC hd (e_list hi) rfl i_AL 2 (by decide) q_48 (Or.inl rfl) (v := .int (nI (xn Z 2 i))) rfl d_AL_clear_16 ?_
  refine lv_istore_n (lv' := [(2, .int (nI (xn Z 2 i))), (1, .ref (ad 4 i)), (0, .ref (ad 3 i))]) hx hb d_AL_clear_19 rfl hl (by decide) rfl (fun ls hl => ?_)
  refine lv_aload_n hx hb d_AL_clear_20 rfl (lv_at hl 2 rfl) ?_
  refine lv_iconst (v := 0) hx hb d_AL_clear_21 (by decide) ?_
  refine lv_dup_x1 hx hb d_AL_clear_22 rfl rfl ?_
  refine zput (Z' := (sn (si Z 16 i ((xi Z 16 i) + 1)) 2 i 0)) (v := .int 0) hC hd (e_list hi) rfl i_AL t_AL t_AL_ok n_AL 2 (by decide) q_48 (Or.inl rfl) rfl rfl rfl (Nat.le_of_ble_eq_true rfl) (u_lsz hi) d_AL_clear_23 (fun H locs hd => ?_)
  refine lv_istore_n (lv' := [(3, .int 0), (2, .int (nI (xn Z 2 i))), (1, .ref (ad 4 i)), (0, .ref (ad 3 i))]) hx hb d_AL_clear_26 rfl hl (by decide) rfl (fun ls hl => ?_)
  refine lp_AL_clear i (xn Z 2 i) (by omega) hC (xn Z 2 i) 0 (sn (si Z 16 i (xi Z 16 i + 1)) 2 i 0) ls _ _ (by omega) hi4 hle hcn hcap hd (lv_sub hl [0, 1, 2, 3] rfl) (fun ls H locs hd => ?_)
  exact zfv hC hd hr hlk d_AL_clear_42 rfl
theorem c_AL_clear (l : Launch) (G : Gt) (ad : Nat → Nat → Nat) (ow : Nat → Nat × Nat) (Z : Zt) (i : Nat) (hi : i < xn Z 0 3) (hi4 : i < xn Z 0 4) (hle : xn Z 2 i ≤ xn Z 3 i) (hcn : xn Z 3 i ≤ 100) : Met l y_AL_clear w_AL_clear ({ frames := 0, cells := 0, slots := 0, locals := 0 }) (zPc G ad ow Z [.ref (ad 3 i)]) (Qd G ad ow (x_clear Z i) (none)) 0 0 (zA G) := by
  by_cases hcap : xn Z 3 i = 0
  · exact c_AL_clear_0 l G ad ow Z i hi hcap (by omega)
  · exact c_AL_clear_n l G ad ow Z i hi hi4 hle hcn hcap
