def XT (Z : Zt) : Prop := 0 < xn Z 0 0 ∧ 1 < xn Z 0 3
theorem XT.kg {Z : Zt} (h : XT Z) : 0 < xn Z 0 0 := h.1
theorem XT.l1 {Z : Zt} (h : XT Z) : 1 < xn Z 0 3 := h.2
def x_rgs : Nat → Zt → Nat → Nat → Zt → Prop
  | 0, _, _, _, _ => False
  | n + 1, Z, u, k, Z' => if u = k then Z' = Z else (AddPre Z 1 ∧ XS (x_add Z 1 u)) ∧ ∃ i9, (i9 < xn (x_add Z 1 u) 2 (u + 2) ∧ (∀ j, j < i9 → xi (x_add Z 1 u) 15 (xc (x_add Z 1 u) 4 (u + 2) j - 1) = 0) ∧ ¬ xi (x_add Z 1 u) 15 (xc (x_add Z 1 u) 4 (u + 2) i9 - 1) = 0) ∧ x_rgs n (x_add Z 1 u) (xc (x_add Z 1 u) 4 (u + 2) i9 - 1) k Z'

set_option maxHeartbeats 4000000 in
theorem lf_KG_asks {p : Program} {l : Launch} {e : Env} {s : State} {m : MethodId} {args : Array Value} {below : List Frame} {meth : Method} {c : Code} {Q : State → Prop} {cells slots : Nat} {G : Gt}  (ad : Nat → Nat → Nat) (ow : Nat → Nat × Nat) {Z : Zt} (hX : XS Z) (hLB : LB Z) (u k i9 : Nat) (hu : u < xn Z 0 1) (hk : k < xn Z 0 1) (hi9 : i9 < xn Z 2 (u + 2)) (hz : ∀ j, j < i9 → xi Z 15 (xc Z 4 (u + 2) j - 1) = 0) (hnz : ¬ xi Z 15 (xc Z 4 (u + 2) i9 - 1) = 0) (hcs : cells ≤ 50 ∧ slots ≤ 2500) (hC : Cx G p c m s args "KeyGraph" b_KG_asks 7) : ∀ (n i : Nat) (ls : Array Slot) (H : Heap) (locs : List Loc), i + n = i9 → Dy G ad ow Z s H locs → lv_has ls 7 [(6, .int (nI i)), (5, .ref (ad 1 u)), (0, .ref (ad 0 0)), (3, .ref (ad 1 k))] → (∀ (ls : Array Slot) (H : Heap) (locs : List Loc), Dy G ad ow Z s H locs → lv_has ls 7 [(6, .int (nI i9)), (5, .ref (ad 1 u)), (0, .ref (ad 0 0)), (3, .ref (ad 1 k))] → W p l e ({ frames := 7, cells := 50, slots := 2500, locals := 191 } : Room) s m args below meth c H locs cells slots Q (F0 m 136 ls [])) → W p l e ({ frames := 7, cells := 50, slots := 2500, locals := 191 } : Room) s m args below meth c H locs cells slots Q (F0 m 110 ls []) := by
  have hx := hC.1
  have hb := hC.2.1
  intro n
  induction n with
  | zero =>
    intro i ls H locs hi hd hl kk
    obtain rfl : i = i9 := by omega
    have h8 := (hX.2.2.2.1 u hu).1
    have he := (hX.2.2.2.1 u hu).2 i (by omega)
    obtain ⟨q, hq⟩ : ∃ q, xc Z 4 (u + 2) i = q + 1 := ⟨xc Z 4 (u + 2) i - 1, by omega⟩
    have hqn : q < xn Z 0 1 := by omega
    rw [show xc Z 4 (u + 2) i - 1 = q by omega] at hnz
    refine lv_aload_n hx hb d_KG_asks_110 rfl (lv_at hl 2 rfl) ?_
    refine lv_aload hx hb d_KG_asks_111 (lv_at hl 1 rfl) ?_
    refine zgetN hC hd (e_key hu) rfl i_Key 2 (by decide) z_118 (Or.inl rfl) (v := .ref (ad 3 (u + 2))) rfl d_KG_asks_113 ?_
    refine lv_iload hx hb d_KG_asks_116 (lv_at hl 0 rfl) ?_
    refine zb_a (r := (ad 1 q)) hd (zrunV (n := 1) (rest := [.ref (ad 0 0)]) hC hd (e_list (hX.l hu)) rfl (c_get l G ad ow Z hX (u + 2) i q (hX.l hu) (show i < xn Z 2 (u + 2) by omega) hq) q_352 q_353 q_354 q_4 q_355 rfl rfl rfl (by decide +kernel) ⟨by decide, by decide⟩ rfl hl.1 (Nat.le_of_ble_eq_true rfl) d_KG_asks_118 hcs) (fun H locs hd => ?_)
    refine zcast hC hd (e_key hqn) q_105 d_KG_asks_121 ?_
    refine zb_i (r := (xi Z 15 q)) hd (zrunV (n := 1) (rest := []) hC hd (e_kg hX.kg) rfl (c_KG_isLeading l G ad ow Z hX hLB q hqn) q_378 q_380 qp_7 q_1 q_381 rfl rfl rfl (by decide +kernel) ⟨by decide, by decide⟩ rfl hl.1 (Nat.le_of_ble_eq_true rfl) d_KG_asks_124 hcs) (fun H locs hd => ?_)
    refine lv_if_ne (tgt := 136) hx hb d_KG_asks_127 (by decide) (fun c127 => ?_) (fun c127 => absurd c127 hnz)
    exact kk ls H locs hd hl
  | succ n ih =>
    intro i ls H locs hi hd hl kk
    have h8 := (hX.2.2.2.1 u hu).1
    have he := (hX.2.2.2.1 u hu).2 i (by omega)
    obtain ⟨q, hq⟩ : ∃ q, xc Z 4 (u + 2) i = q + 1 := ⟨xc Z 4 (u + 2) i - 1, by omega⟩
    have hqn : q < xn Z 0 1 := by omega
    have hzi := hz i (by omega)
    rw [show xc Z 4 (u + 2) i - 1 = q by omega] at hzi
    refine lv_aload_n hx hb d_KG_asks_110 rfl (lv_at hl 2 rfl) ?_
    refine lv_aload hx hb d_KG_asks_111 (lv_at hl 1 rfl) ?_
    refine zgetN hC hd (e_key hu) rfl i_Key 2 (by decide) z_118 (Or.inl rfl) (v := .ref (ad 3 (u + 2))) rfl d_KG_asks_113 ?_
    refine lv_iload hx hb d_KG_asks_116 (lv_at hl 0 rfl) ?_
    refine zb_a (r := (ad 1 q)) hd (zrunV (n := 1) (rest := [.ref (ad 0 0)]) hC hd (e_list (hX.l hu)) rfl (c_get l G ad ow Z hX (u + 2) i q (hX.l hu) (show i < xn Z 2 (u + 2) by omega) hq) q_352 q_353 q_354 q_4 q_355 rfl rfl rfl (by decide +kernel) ⟨by decide, by decide⟩ rfl hl.1 (Nat.le_of_ble_eq_true rfl) d_KG_asks_118 hcs) (fun H locs hd => ?_)
    refine zcast hC hd (e_key hqn) q_105 d_KG_asks_121 ?_
    refine zb_i (r := (xi Z 15 q)) hd (zrunV (n := 1) (rest := []) hC hd (e_kg hX.kg) rfl (c_KG_isLeading l G ad ow Z hX hLB q hqn) q_378 q_380 qp_7 q_1 q_381 rfl rfl rfl (by decide +kernel) ⟨by decide, by decide⟩ rfl hl.1 (Nat.le_of_ble_eq_true rfl) d_KG_asks_124 hcs) (fun H locs hd => ?_)
    refine lv_if_ne (tgt := 136) hx hb d_KG_asks_127 (by decide) (fun c127 => absurd hzi c127) (fun c127 => ?_)
    refine lv_iinc (v := (nI (i + 1))) (lv' := [(6, .int (nI (i + 1))), (5, .ref (ad 1 u)), (0, .ref (ad 0 0)), (3, .ref (ad 1 k))]) hx hb d_KG_asks_130 hl (k := 0) rfl (by rw [show Int32.ofInt 1 = nI 1 from by decide]; exact nI_add _ _) (by decide) rfl (fun ls hl => ?_)
    refine lv_goto (tgt := 110) hx hb d_KG_asks_133 (by decide) ?_
    exact ih (i + 1) ls H locs (by omega) hd (lv_sub hl [0, 1, 2, 3] rfl) kk
set_option maxHeartbeats 4000000 in
theorem lr_KG_asks {p : Program} {l : Launch} {e : Env} {s : State} {m : MethodId} {args : Array Value} {below : List Frame} {meth : Method} {c : Code} {Q : State → Prop} {G : Gt}  (k : Nat) (Z9 : Zt) (ad0 : Nat → Nat → Nat) (hC : Cx G p c m s args "KeyGraph" b_KG_asks 7) : ∀ (n : Nat) (ad : Nat → Nat → Nat) (ow : Nat → Nat × Nat) (Z : Zt) (u cells slots : Nat) (ls : Array Slot) (H : Heap) (locs : List Loc), cells + n ≤ 50 → slots + 49 * n ≤ 2500 → x_rgs n Z u k Z9 → XS Z → LB Z → u < xn Z 0 1 → k < xn Z 0 1 → Keep ad0 ad → Dy G ad ow Z s H locs → lv_has ls 7 [(5, .ref (ad 1 u)), (0, .ref (ad 0 0)), (3, .ref (ad 1 k))] → (∀ (ad : Nat → Nat → Nat) (ow : Nat → Nat × Nat) (ls : Array Slot) (H : Heap) (locs : List Loc), Keep ad0 ad → Dy G ad ow Z9 s H locs → W p l e ({ frames := 7, cells := 50, slots := 2500, locals := 191 } : Room) s m args below meth c H locs 50 2500 Q (F0 m 154 ls [])) → W p l e ({ frames := 7, cells := 50, slots := 2500, locals := 191 } : Room) s m args below meth c H locs cells slots Q (F0 m 91 ls []) := by
  have hx := hC.1
  have hb := hC.2.1
  intro n
  induction n with
  | zero => exact fun ad ow Z u cells slots ls H locs h1 h2 h => h.elim
  | succ n ih =>
    intro ad ow Z u cells slots ls H locs hc1 hc2 hrg hX hLB hu hk hkp hd hl kk
    unfold x_rgs at hrg
    refine lv_aload hx hb d_KG_asks_91 (lv_at hl 0 rfl) ?_
    refine lv_aload_n hx hb d_KG_asks_93 rfl (lv_at hl 2 rfl) ?_
    refine lv_acmp_eq (rx := some (ad 1 u)) (ry := some (ad 1 k)) (tgt := 154) hx hb d_KG_asks_94 (by decide) (fun ceq => ?_) (fun cne => ?_)
    · have huk : u = k := by
        have h1 := (hd.1 1 u _ (e_key hu)).2.2
        rw [Option.some.inj ceq, (hd.1 1 k _ (e_key hk)).2.2] at h1
        cases h1; rfl
      rw [if_pos huk] at hrg
      exact W.widen (by omega) (by omega) (kk ad ow ls H locs hkp (hrg ▸ hd))
    rw [if_neg (fun q => cne (by rw [q]))] at hrg
    obtain ⟨⟨hap, hX1⟩, i9, ⟨hi9, hz, hnz⟩, hrg⟩ := hrg
    refine lv_aload_n hx hb d_KG_asks_97 rfl (lv_at hl 1 rfl) ?_
    refine zget hC hd (e_kg hX.kg) rfl i_KG 2 (by decide) q_82 (Or.inl rfl) (v := .ref (ad 3 1)) rfl d_KG_asks_98 ?_
    refine lv_aload hx hb d_KG_asks_101 (lv_at hl 0 rfl) ?_
    refine zbackg hd (zrunV (n := 1) (rest := []) hC hd (e_list hX.l1) rfl (c_AL_add1 l G ad ow Z 1 u hap hu) q_176 q_177 q_178 q_4 q_179 rfl rfl rfl (by decide +kernel) ⟨by decide, by decide⟩ rfl hl.1 (Nat.le_of_ble_eq_true rfl) d_KG_asks_103 ⟨by show cells + 1 ≤ 50; omega, by show slots + 49 ≤ 2500; omega⟩) rfl rfl (fun ad9 ow Z1 v9 H locs hq hd => ?_)
    obtain ⟨a, b, had, hZ1, rfl⟩ := hq
    have f0 : ad 0 0 = ad9 0 0 := by rw [← had]; rfl
    have f1 : ∀ x, ad 1 x = ad9 1 x := fun x => by rw [← had]; rfl
    have hkp : Keep ad0 ad9 := by rw [← had]; exact hkp
    rw [f0, f1 u, f1 k] at hl
    change W _ _ _ _ _ _ _ _ _ _ _ _ _ _ _ (F0 m 106 ls [.int 1])
    have hu1 : u < xn Z1 0 1 := by rw [← hZ1]; exact hu
    have hk1 : k < xn Z1 0 1 := by rw [← hZ1]; exact hk
    have hLB1 : LB Z1 := by rw [← hZ1]; exact hLB
    rw [hZ1] at hX1 hi9 hz hnz hrg
    refine lv_pop hx hb d_KG_asks_106 rfl ?_
    refine lv_iconst (v := 0) hx hb d_KG_asks_107 (by decide) ?_
    refine lv_istore (lv' := [(6, .int 0), (5, .ref (ad9 1 u)), (0, .ref (ad9 0 0)), (3, .ref (ad9 1 k))]) hx hb d_KG_asks_108 hl (by decide) rfl (fun ls hl => ?_)
    refine lf_KG_asks ad9 ow hX1 hLB1 u k i9 hu1 hk1 hi9 hz hnz ⟨by omega, by omega⟩ hC i9 0 ls H locs (by omega) hd (lv_sub hl [0, 1, 2, 3] rfl) (fun ls H locs hd hl => ?_)
    have he := (hX1.2.2.2.1 u hu1).2 i9 hi9
    obtain ⟨q, hq⟩ : ∃ q, xc Z1 4 (u + 2) i9 = q + 1 := ⟨xc Z1 4 (u + 2) i9 - 1, by omega⟩
    have hqn : q < xn Z1 0 1 := by omega
    have h8 := (hX1.2.2.2.1 u hu1).1
    rw [show xc Z1 4 (u + 2) i9 - 1 = q by omega] at hrg
    refine lv_aload hx hb d_KG_asks_136 (lv_at hl 1 rfl) ?_
    refine zgetN hC hd (e_key hu1) rfl i_Key 2 (by decide) z_118 (Or.inl rfl) (v := .ref (ad9 3 (u + 2))) rfl d_KG_asks_138 ?_
    refine lv_iload hx hb d_KG_asks_141 (lv_at hl 0 rfl) ?_
    refine zb_a (r := (ad9 1 q)) hd (zrunV (n := 1) (rest := []) hC hd (e_list (hX1.l hu1)) rfl (c_get l G ad9 ow Z1 hX1 (u + 2) i9 q (hX1.l hu1) hi9 hq) q_352 q_353 q_354 q_4 q_355 rfl rfl rfl (by decide +kernel) ⟨by decide, by decide⟩ rfl hl.1 (Nat.le_of_ble_eq_true rfl) d_KG_asks_143 ⟨by show cells + 1 + 0 ≤ 50; omega, by show slots + 49 + 0 ≤ 2500; omega⟩) (fun H locs hd => ?_)
    refine zcast hC hd (e_key hqn) q_105 d_KG_asks_146 ?_
    refine lv_astore (lv' := [(5, .ref (ad9 1 q)), (6, .int (nI i9)), (0, .ref (ad9 0 0)), (3, .ref (ad9 1 k))]) hx hb d_KG_asks_149 hl (by decide) rfl (fun ls hl => ?_)
    refine lv_goto (tgt := 91) hx hb d_KG_asks_151 (by decide) ?_
    exact ih ad9 ow Z1 q (cells + 1) (slots + 49) ls H locs (by omega) (by omega) hrg hX1 hLB1 hqn hk1 hkp hd (lv_sub hl [0, 2, 3] rfl) kk
set_option maxHeartbeats 4000000 in
theorem c_KG_asks_no1 (l : Launch) (G : Gt) (ad : Nat → Nat → Nat) (ow : Nat → Nat × Nat) (Z : Zt) (hX : XS Z) (k o : Int32) (h0 : x_isFn Z k = 0) : Met l y_KG_asks w_KG_asks ({ frames := 7, cells := 50, slots := 2500, locals := 191 }) (zPc G ad ow Z [.ref (ad 0 0), .int k, .int o]) (QK G ad Z (some (.int (-1)))) 50 2500 (zA G) := by
  refine zopen (cc := b_KG_asks) (maxL := 7) (ret := (some FieldType.int)) (by decide) rfl (Nat.le_of_ble_eq_true rfl) ?_
  intro p e s m below meth c ls hC hr hlk hnm hd hl
  have hC : Cx G p c m s _ "KeyGraph" b_KG_asks 7 := hC
  have hl : lv_has ls 7 [(0, .ref (ad 0 0)), (1, .int k), (2, .int o)] := hl
  have hx := hC.1
  have hb := hC.2.1
  refine lv_aload_n hx hb d_KG_asks_0 rfl (lv_at hl 0 rfl) ?_
  refine lv_iload_n hx hb d_KG_asks_1 rfl (lv_at hl 1 rfl) ?_
  refine zb_i (r := 0) hd (zrunV (n := 1) (rest := []) hC hd (e_kg hX.kg) rfl (c_KG_isFunction l G ad ow Z hX k 0 h0) q_344 q_346 qp_3 q_1 q_347 rfl rfl rfl (by decide +kernel) ⟨by decide, by decide⟩ rfl hl.1 (Nat.le_of_ble_eq_true rfl) d_KG_asks_2 ⟨by decide, by decide⟩) (fun H locs hd => ?_)
  refine lv_if_eq (tgt := 16) hx hb d_KG_asks_5 (by decide) (fun _ => ?_) (fun c => absurd c (by decide))
  refine lv_iconst (v := (-1)) hx hb d_KG_asks_16 (by decide) ?_
  exact zgi hC hd hr hlk d_KG_asks_17 ⟨⟨rfl, rfl, rfl⟩, rfl, rfl⟩ (Nat.le_of_ble_eq_true rfl) (Nat.le_of_ble_eq_true rfl)
set_option maxHeartbeats 4000000 in
theorem c_KG_asks_no2 (l : Launch) (G : Gt) (ad : Nat → Nat → Nat) (ow : Nat → Nat × Nat) (Z : Zt) (hX : XS Z) (k o : Int32) (h0 : x_isFn Z k = 1) (h1 : x_isKey Z o = 0) : Met l y_KG_asks w_KG_asks ({ frames := 7, cells := 50, slots := 2500, locals := 191 }) (zPc G ad ow Z [.ref (ad 0 0), .int k, .int o]) (QK G ad Z (some (.int (-1)))) 50 2500 (zA G) := by
  refine zopen (cc := b_KG_asks) (maxL := 7) (ret := (some FieldType.int)) (by decide) rfl (Nat.le_of_ble_eq_true rfl) ?_
  intro p e s m below meth c ls hC hr hlk hnm hd hl
  have hC : Cx G p c m s _ "KeyGraph" b_KG_asks 7 := hC
  have hl : lv_has ls 7 [(0, .ref (ad 0 0)), (1, .int k), (2, .int o)] := hl
  have hx := hC.1
  have hb := hC.2.1
  refine lv_aload_n hx hb d_KG_asks_0 rfl (lv_at hl 0 rfl) ?_
  refine lv_iload_n hx hb d_KG_asks_1 rfl (lv_at hl 1 rfl) ?_
  refine zb_i (r := 1) hd (zrunV (n := 1) (rest := []) hC hd (e_kg hX.kg) rfl (c_KG_isFunction l G ad ow Z hX k 1 h0) q_344 q_346 qp_3 q_1 q_347 rfl rfl rfl (by decide +kernel) ⟨by decide, by decide⟩ rfl hl.1 (Nat.le_of_ble_eq_true rfl) d_KG_asks_2 ⟨by decide, by decide⟩) (fun H locs hd => ?_)
  refine lv_if_eq (tgt := 16) hx hb d_KG_asks_5 (by decide) (fun c => absurd c (by decide)) (fun _ => ?_)
  refine lv_aload_n hx hb d_KG_asks_8 rfl (lv_at hl 0 rfl) ?_
  refine lv_iload_n hx hb d_KG_asks_9 rfl (lv_at hl 2 rfl) ?_
  refine zb_i (r := 0) hd (zrunV (n := 1) (rest := []) hC hd (e_kg hX.kg) rfl (c_KG_isKey l G ad ow Z hX o 0 h1) q_348 q_350 qp_4 q_1 q_351 rfl rfl rfl (by decide +kernel) ⟨by decide, by decide⟩ rfl hl.1 (Nat.le_of_ble_eq_true rfl) d_KG_asks_10 ⟨by decide, by decide⟩) (fun H locs hd => ?_)
  refine lv_if_ne (tgt := 18) hx hb d_KG_asks_13 (by decide) (fun c => absurd c (by decide)) (fun _ => ?_)
  refine lv_iconst (v := (-1)) hx hb d_KG_asks_16 (by decide) ?_
  exact zgi hC hd hr hlk d_KG_asks_17 ⟨⟨rfl, rfl, rfl⟩, rfl, rfl⟩ (Nat.le_of_ble_eq_true rfl) (Nat.le_of_ble_eq_true rfl)
set_option maxHeartbeats 4000000 in
theorem c_KG_asks_no3 (l : Launch) (G : Gt) (ad : Nat → Nat → Nat) (ow : Nat → Nat × Nat) (Z : Zt) (hX : XS Z) (k o : Nat) (hk : k < xn Z 0 1) (ho : o < xn Z 0 1) (h0 : x_isFn Z (nI k) = 1) (h1 : x_isKey Z (nI o) = 1) (h88 : xn Z 2 (k + 2) = 8) : Met l y_KG_asks w_KG_asks ({ frames := 7, cells := 50, slots := 2500, locals := 191 }) (zPc G ad ow Z [.ref (ad 0 0), .int (nI k), .int (nI o)]) (QK G ad Z (some (.int (-1)))) 50 2500 (zA G) := by
  refine zopen (cc := b_KG_asks) (maxL := 7) (ret := (some FieldType.int)) (by decide) rfl (Nat.le_of_ble_eq_true rfl) ?_
  intro p e s m below meth c ls hC hr hlk hnm hd hl
  have hC : Cx G p c m s _ "KeyGraph" b_KG_asks 7 := hC
  have hl : lv_has ls 7 [(0, .ref (ad 0 0)), (1, .int (nI k)), (2, .int (nI o))] := hl
  have hx := hC.1
  have hb := hC.2.1
  have h40 := hX.k40
  have h8 := (hX.2.2.2.1 k hk).1
  refine lv_aload_n hx hb d_KG_asks_0 rfl (lv_at hl 0 rfl) ?_
  refine lv_iload_n hx hb d_KG_asks_1 rfl (lv_at hl 1 rfl) ?_
  refine zb_i (r := 1) hd (zrunV (n := 1) (rest := []) hC hd (e_kg hX.kg) rfl (c_KG_isFunction l G ad ow Z hX (nI k) 1 h0) q_344 q_346 qp_3 q_1 q_347 rfl rfl rfl (by decide +kernel) ⟨by decide, by decide⟩ rfl hl.1 (Nat.le_of_ble_eq_true rfl) d_KG_asks_2 ⟨by decide, by decide⟩) (fun H locs hd => ?_)
  refine lv_if_eq (tgt := 16) hx hb d_KG_asks_5 (by decide) (fun c => absurd c (by decide)) (fun _ => ?_)
  refine lv_aload_n hx hb d_KG_asks_8 rfl (lv_at hl 0 rfl) ?_
  refine lv_iload_n hx hb d_KG_asks_9 rfl (lv_at hl 2 rfl) ?_
  refine zb_i (r := 1) hd (zrunV (n := 1) (rest := []) hC hd (e_kg hX.kg) rfl (c_KG_isKey l G ad ow Z hX (nI o) 1 h1) q_348 q_350 qp_4 q_1 q_351 rfl rfl rfl (by decide +kernel) ⟨by decide, by decide⟩ rfl hl.1 (Nat.le_of_ble_eq_true rfl) d_KG_asks_10 ⟨by decide, by decide⟩) (fun H locs hd => ?_)
  refine lv_if_ne (tgt := 18) hx hb d_KG_asks_13 (by decide) (fun _ => ?_) (fun c => absurd c (by decide))
  refine lv_aload_n hx hb d_KG_asks_18 rfl (lv_at hl 0 rfl) ?_
  refine zget hC hd (e_kg hX.kg) rfl i_KG 0 (by decide) q_80 (Or.inl rfl) (v := .ref (ad 3 0)) rfl d_KG_asks_19 ?_
  refine lv_iload_n hx hb d_KG_asks_22 rfl (lv_at hl 1 rfl) ?_
  refine zb_a (r := (ad 1 k)) hd (zrunV (n := 1) (rest := []) hC hd (e_list hX.l0) rfl (c_get l G ad ow Z hX 0 k k hX.l0 (show k < xn Z 2 0 by rw [hX.kl]; exact hk) (hX.ke hk)) q_352 q_353 q_354 q_4 q_355 rfl rfl rfl (by decide +kernel) ⟨by decide, by decide⟩ rfl hl.1 (Nat.le_of_ble_eq_true rfl) d_KG_asks_23 ⟨by decide, by decide⟩) (fun H locs hd => ?_)
  refine zcast hC hd (e_key hk) q_105 d_KG_asks_26 ?_
  refine lv_astore_n (lv' := [(3, .ref (ad 1 k)), (0, .ref (ad 0 0)), (1, .int (nI k)), (2, .int (nI o))]) hx hb d_KG_asks_29 rfl hl (by decide) rfl (fun ls hl => ?_)
  refine lv_aload_n hx hb d_KG_asks_30 rfl (lv_at hl 1 rfl) ?_
  refine zget hC hd (e_kg hX.kg) rfl i_KG 0 (by decide) q_80 (Or.inl rfl) (v := .ref (ad 3 0)) rfl d_KG_asks_31 ?_
  refine lv_iload_n hx hb d_KG_asks_34 rfl (lv_at hl 3 rfl) ?_
  refine zb_a (r := (ad 1 o)) hd (zrunV (n := 1) (rest := []) hC hd (e_list hX.l0) rfl (c_get l G ad ow Z hX 0 o o hX.l0 (show o < xn Z 2 0 by rw [hX.kl]; exact ho) (hX.ke ho)) q_352 q_353 q_354 q_4 q_355 rfl rfl rfl (by decide +kernel) ⟨by decide, by decide⟩ rfl hl.1 (Nat.le_of_ble_eq_true rfl) d_KG_asks_35 ⟨by decide, by decide⟩) (fun H locs hd => ?_)
  refine zcast hC hd (e_key ho) q_105 d_KG_asks_38 ?_
  refine lv_astore (lv' := [(4, .ref (ad 1 o)), (3, .ref (ad 1 k)), (0, .ref (ad 0 0)), (1, .int (nI k)), (2, .int (nI o))]) hx hb d_KG_asks_41 hl (by decide) rfl (fun ls hl => ?_)
  refine lv_aload_n hx hb d_KG_asks_43 rfl (lv_at hl 1 rfl) ?_
  refine zgetN hC hd (e_key hk) rfl i_Key 2 (by decide) z_118 (Or.inl rfl) (v := .ref (ad 3 (k + 2))) rfl d_KG_asks_44 ?_
  refine zb_i (r := (nI (xn Z 2 (k + 2)))) hd (zrunV (n := 0) (rest := []) hC hd (e_list (hX.l hk)) rfl (c_AL_size l G ad ow Z (k + 2) (hX.l hk)) q_101 q_102 q_103 q_4 q_104 rfl rfl rfl (by decide +kernel) ⟨by decide, by decide⟩ rfl hl.1 (Nat.le_of_ble_eq_true rfl) d_KG_asks_47 ⟨by decide, by decide⟩) (fun H locs hd => ?_)
  refine lv_bipush (v := 8) hx hb d_KG_asks_50 (by decide) ?_
  refine zc_ne (x := xn Z 2 (k + 2)) (y := 8) (tgt := 57) (by omega) (by omega) hx hb d_KG_asks_52 (by decide) (fun c52 => absurd h88 c52) (fun c52 => ?_)
  refine lv_iconst (v := (-1)) hx hb d_KG_asks_55 (by decide) ?_
  exact zgi hC hd hr hlk d_KG_asks_56 ⟨⟨rfl, rfl, rfl⟩, rfl, rfl⟩ (Nat.le_of_ble_eq_true rfl) (Nat.le_of_ble_eq_true rfl)
set_option maxHeartbeats 4000000 in
theorem c_KG_asks_ring (l : Launch) (G : Gt) (ad : Nat → Nat → Nat) (ow : Nat → Nat × Nat) (Z : Zt) (hX : XS Z) (k o : Nat) (hk : k < xn Z 0 1) (ho : o < xn Z 0 1) (h0 : x_isFn Z (nI k) = 1) (h1 : x_isKey Z (nI o) = 1) (h88 : ¬ xn Z 2 (k + 2) = 8) (hLB : LB Z) (N : Nat) (Z9 : Zt) (hw : x_ldW N (x_ld0 k Z 0 40) 1 Z9) (hld : ¬ xi Z9 15 o = 0) (hap : AddPre (x_clear Z9 1) 1) (hkc : k < xn (x_clear Z9 1) 0 1) (hXc : XS (x_add (x_clear Z9 1) 1 k)) (hLBc : LB (x_add (x_clear Z9 1) 1 k)) (hoc : o < xn (x_add (x_clear Z9 1) 1 k) 0 1) (hkd : k < xn (x_add (x_clear Z9 1) 1 k) 0 1) (N2 : Nat) (hN2 : N2 ≤ 48) (Z10 : Zt) (hrg : x_rgs N2 (x_add (x_clear Z9 1) 1 k) o k Z10) (hl1 : 1 < xn (x_clear Z9 1) 0 3) (hg0 : 0 < xn (x_clear Z9 1) 0 0) : Met l y_KG_asks w_KG_asks ({ frames := 7, cells := 50, slots := 2500, locals := 191 }) (zPc G ad ow Z [.ref (ad 0 0), .int (nI k), .int (nI o)]) (QK G ad Z10 (some (.int (-2)))) 50 2500 (zA G) := by
  refine zopen (cc := b_KG_asks) (maxL := 7) (ret := (some FieldType.int)) (by decide) rfl (Nat.le_of_ble_eq_true rfl) ?_
  intro p e s m below meth c ls hC hr hlk hnm hd hl
  have hC : Cx G p c m s _ "KeyGraph" b_KG_asks 7 := hC
  have hl : lv_has ls 7 [(0, .ref (ad 0 0)), (1, .int (nI k)), (2, .int (nI o))] := hl
  have hx := hC.1
  have hb := hC.2.1
  have h40 := hX.k40
  have h8 := (hX.2.2.2.1 k hk).1
  refine lv_aload_n hx hb d_KG_asks_0 rfl (lv_at hl 0 rfl) ?_
  refine lv_iload_n hx hb d_KG_asks_1 rfl (lv_at hl 1 rfl) ?_
  refine zb_i (r := 1) hd (zrunV (n := 1) (rest := []) hC hd (e_kg hX.kg) rfl (c_KG_isFunction l G ad ow Z hX (nI k) 1 h0) q_344 q_346 qp_3 q_1 q_347 rfl rfl rfl (by decide +kernel) ⟨by decide, by decide⟩ rfl hl.1 (Nat.le_of_ble_eq_true rfl) d_KG_asks_2 ⟨by decide, by decide⟩) (fun H locs hd => ?_)
  refine lv_if_eq (tgt := 16) hx hb d_KG_asks_5 (by decide) (fun c => absurd c (by decide)) (fun _ => ?_)
  refine lv_aload_n hx hb d_KG_asks_8 rfl (lv_at hl 0 rfl) ?_
  refine lv_iload_n hx hb d_KG_asks_9 rfl (lv_at hl 2 rfl) ?_
  refine zb_i (r := 1) hd (zrunV (n := 1) (rest := []) hC hd (e_kg hX.kg) rfl (c_KG_isKey l G ad ow Z hX (nI o) 1 h1) q_348 q_350 qp_4 q_1 q_351 rfl rfl rfl (by decide +kernel) ⟨by decide, by decide⟩ rfl hl.1 (Nat.le_of_ble_eq_true rfl) d_KG_asks_10 ⟨by decide, by decide⟩) (fun H locs hd => ?_)
  refine lv_if_ne (tgt := 18) hx hb d_KG_asks_13 (by decide) (fun _ => ?_) (fun c => absurd c (by decide))
  refine lv_aload_n hx hb d_KG_asks_18 rfl (lv_at hl 0 rfl) ?_
  refine zget hC hd (e_kg hX.kg) rfl i_KG 0 (by decide) q_80 (Or.inl rfl) (v := .ref (ad 3 0)) rfl d_KG_asks_19 ?_
  refine lv_iload_n hx hb d_KG_asks_22 rfl (lv_at hl 1 rfl) ?_
  refine zb_a (r := (ad 1 k)) hd (zrunV (n := 1) (rest := []) hC hd (e_list hX.l0) rfl (c_get l G ad ow Z hX 0 k k hX.l0 (show k < xn Z 2 0 by rw [hX.kl]; exact hk) (hX.ke hk)) q_352 q_353 q_354 q_4 q_355 rfl rfl rfl (by decide +kernel) ⟨by decide, by decide⟩ rfl hl.1 (Nat.le_of_ble_eq_true rfl) d_KG_asks_23 ⟨by decide, by decide⟩) (fun H locs hd => ?_)
  refine zcast hC hd (e_key hk) q_105 d_KG_asks_26 ?_
  refine lv_astore_n (lv' := [(3, .ref (ad 1 k)), (0, .ref (ad 0 0)), (1, .int (nI k)), (2, .int (nI o))]) hx hb d_KG_asks_29 rfl hl (by decide) rfl (fun ls hl => ?_)
  refine lv_aload_n hx hb d_KG_asks_30 rfl (lv_at hl 1 rfl) ?_
  refine zget hC hd (e_kg hX.kg) rfl i_KG 0 (by decide) q_80 (Or.inl rfl) (v := .ref (ad 3 0)) rfl d_KG_asks_31 ?_
  refine lv_iload_n hx hb d_KG_asks_34 rfl (lv_at hl 3 rfl) ?_
  refine zb_a (r := (ad 1 o)) hd (zrunV (n := 1) (rest := []) hC hd (e_list hX.l0) rfl (c_get l G ad ow Z hX 0 o o hX.l0 (show o < xn Z 2 0 by rw [hX.kl]; exact ho) (hX.ke ho)) q_352 q_353 q_354 q_4 q_355 rfl rfl rfl (by decide +kernel) ⟨by decide, by decide⟩ rfl hl.1 (Nat.le_of_ble_eq_true rfl) d_KG_asks_35 ⟨by decide, by decide⟩) (fun H locs hd => ?_)
  refine zcast hC hd (e_key ho) q_105 d_KG_asks_38 ?_
  refine lv_astore (lv' := [(4, .ref (ad 1 o)), (3, .ref (ad 1 k)), (0, .ref (ad 0 0)), (1, .int (nI k)), (2, .int (nI o))]) hx hb d_KG_asks_41 hl (by decide) rfl (fun ls hl => ?_)
  refine lv_aload_n hx hb d_KG_asks_43 rfl (lv_at hl 1 rfl) ?_
  refine zgetN hC hd (e_key hk) rfl i_Key 2 (by decide) z_118 (Or.inl rfl) (v := .ref (ad 3 (k + 2))) rfl d_KG_asks_44 ?_
  refine zb_i (r := (nI (xn Z 2 (k + 2)))) hd (zrunV (n := 0) (rest := []) hC hd (e_list (hX.l hk)) rfl (c_AL_size l G ad ow Z (k + 2) (hX.l hk)) q_101 q_102 q_103 q_4 q_104 rfl rfl rfl (by decide +kernel) ⟨by decide, by decide⟩ rfl hl.1 (Nat.le_of_ble_eq_true rfl) d_KG_asks_47 ⟨by decide, by decide⟩) (fun H locs hd => ?_)
  refine lv_bipush (v := 8) hx hb d_KG_asks_50 (by decide) ?_
  refine zc_ne (x := xn Z 2 (k + 2)) (y := 8) (tgt := 57) (by omega) (by omega) hx hb d_KG_asks_52 (by decide) (fun c52 => ?_) (fun c52 => absurd c52 h88)
  refine lv_aload_n hx hb d_KG_asks_57 rfl (lv_at hl 2 rfl) ?_
  refine lv_aload_n hx hb d_KG_asks_58 rfl (lv_at hl 1 rfl) ?_
  refine zb_v hd (zrunV (n := 1) (rest := []) hC hd (e_kg hX.kg) rfl (c_KG_leadTo l G ad ow Z hX hLB k hk N Z9 hw) q_370 q_372 qp_5 q_1 q_373 rfl rfl rfl (by decide +kernel) ⟨by decide, by decide⟩ rfl hl.1 (Nat.le_of_ble_eq_true rfl) d_KG_asks_59 ⟨by decide, by decide⟩) (fun H locs hd => ?_)
  have hL : XLD Z Z9 := (x_ld0_LD k 40 Z 0).trans (x_ldW_LD N _ _ _ hw)
  have hX9 := hL.toXS hX
  have hLB9 := hL.2.2 hLB
  have hk9 : k < xn Z9 0 1 := by rw [hL.gn]; exact hk
  have ho9 : o < xn Z9 0 1 := by rw [hL.gn]; exact ho
  refine lv_aload_n hx hb d_KG_asks_62 rfl (lv_at hl 2 rfl) ?_
  refine lv_aload hx hb d_KG_asks_63 (lv_at hl 0 rfl) ?_
  refine zb_i (r := (xi Z9 15 o)) hd (zrunV (n := 1) (rest := []) hC hd (e_kg hX9.kg) rfl (c_KG_isLeading l G ad ow Z9 hX9 hLB9 o ho9) q_378 q_380 qp_7 q_1 q_381 rfl rfl rfl (by decide +kernel) ⟨by decide, by decide⟩ rfl hl.1 (Nat.le_of_ble_eq_true rfl) d_KG_asks_65 ⟨by decide, by decide⟩) (fun H locs hd => ?_)
  refine lv_if_eq (tgt := 157) hx hb d_KG_asks_68 (by decide) (fun c68 => absurd c68 hld) (fun c68 => ?_)
  refine lv_aload_n hx hb d_KG_asks_71 rfl (lv_at hl 2 rfl) ?_
  refine zget hC hd (e_kg hX9.kg) rfl i_KG 2 (by decide) q_82 (Or.inl rfl) (v := .ref (ad 3 1)) rfl d_KG_asks_72 ?_
  refine zb_v hd (zrunV (n := 0) (rest := []) hC hd (e_list hX9.l1) rfl (c_AL_clear l G ad ow Z9 1 hX9.l1 (by have := hX9.1; omega) (hX9.2.2.1.1 1) (hX9.2.2.1.2 1)) q_382 q_383 q_384 q_4 q_385 rfl rfl rfl (by decide +kernel) ⟨by decide, by decide⟩ rfl hl.1 (Nat.le_of_ble_eq_true rfl) d_KG_asks_75 ⟨by decide, by decide⟩) (fun H locs hd => ?_)
  have hPt : XT (x_clear Z9 1) := ⟨hg0, hl1⟩
  refine lv_aload_n hx hb d_KG_asks_78 rfl (lv_at hl 2 rfl) ?_
  refine zget hC hd (e_kg hPt.kg) rfl i_KG 2 (by decide) q_82 (Or.inl rfl) (v := .ref (ad 3 1)) rfl d_KG_asks_79 ?_
  refine lv_aload_n hx hb d_KG_asks_82 rfl (lv_at hl 1 rfl) ?_
  refine zbackg hd (zrunV (n := 1) (rest := []) hC hd (e_list hPt.l1) rfl (c_AL_add1 l G ad ow (x_clear Z9 1) 1 k hap hkc) q_176 q_177 q_178 q_4 q_179 rfl rfl rfl (by decide +kernel) ⟨by decide, by decide⟩ rfl hl.1 (Nat.le_of_ble_eq_true rfl) d_KG_asks_83 ⟨by decide, by decide⟩) rfl rfl (fun ad9 ow Z1 v9 H locs hq hd => ?_)
  obtain ⟨a, b, had, rfl, rfl⟩ := hq
  have f0 : ad 0 0 = ad9 0 0 := by rw [← had]; rfl
  have f1 : ∀ x, ad 1 x = ad9 1 x := fun x => by rw [← had]; rfl
  have hkp : Keep ad ad9 := by rw [← had]; exact ⟨rfl, rfl, rfl⟩
  rw [f0, f1 k, f1 o] at hl
  change W _ _ _ _ _ _ _ _ _ _ _ _ _ _ _ (F0 m 86 ls [.int 1])
  refine lv_pop hx hb d_KG_asks_86 rfl ?_
  refine lv_aload hx hb d_KG_asks_87 (lv_at hl 0 rfl) ?_
  refine lv_astore (lv' := [(5, .ref (ad9 1 o)), (4, .ref (ad9 1 o)), (3, .ref (ad9 1 k)), (0, .ref (ad9 0 0)), (1, .int (nI k)), (2, .int (nI o))]) hx hb d_KG_asks_89 hl (by decide) rfl (fun ls hl => ?_)
  refine lr_KG_asks k Z10 ad hC N2 ad9 ow _ o 1 49 ls H locs (by omega) (by omega) hrg hXc hLBc hoc hkd hkp hd (lv_sub hl [0, 3, 2] rfl) (fun ad9 ow ls H locs hkp hd => ?_)
  refine lv_bipush (v := (-2)) hx hb d_KG_asks_154 (by decide) ?_
  exact zgi hC hd hr hlk d_KG_asks_156 ⟨hkp, rfl, rfl⟩ (Nat.le_of_ble_eq_true rfl) (Nat.le_of_ble_eq_true rfl)
def x_asksY (Z : Zt) (k q : Nat) : Zt := si (x_add (x_raise Z) (k + 2) q) 4 k (xi (x_raise Z) 14 0)
set_option maxHeartbeats 4000000 in
theorem c_KG_asks_yes (l : Launch) (G : Gt) (ad : Nat → Nat → Nat) (ow : Nat → Nat × Nat) (Z : Zt) (hX : XS Z) (k o : Nat) (hk : k < xn Z 0 1) (ho : o < xn Z 0 1) (h0 : x_isFn Z (nI k) = 1) (h1 : x_isKey Z (nI o) = 1) (h88 : ¬ xn Z 2 (k + 2) = 8) (hLB : LB Z) (N : Nat) (Z9 : Zt) (hw : x_ldW N (x_ld0 k Z 0 40) 1 Z9) (hld : xi Z9 15 o = 0) (hcp : CancelPre Z9) (hap : AddPre (x_raise Z9) (k + 2)) : Met l y_KG_asks w_KG_asks ({ frames := 7, cells := 50, slots := 2500, locals := 191 }) (zPc G ad ow Z [.ref (ad 0 0), .int (nI k), .int (nI o)]) (QK G ad (x_asksY Z9 k o) (some (.int 1))) 50 2500 (zA G) := by
  refine zopen (cc := b_KG_asks) (maxL := 7) (ret := (some FieldType.int)) (by decide) rfl (Nat.le_of_ble_eq_true rfl) ?_
  intro p e s m below meth c ls hC hr hlk hnm hd hl
  have hC : Cx G p c m s _ "KeyGraph" b_KG_asks 7 := hC
  have hl : lv_has ls 7 [(0, .ref (ad 0 0)), (1, .int (nI k)), (2, .int (nI o))] := hl
  have hx := hC.1
  have hb := hC.2.1
  have h40 := hX.k40
  have h8 := (hX.2.2.2.1 k hk).1
  refine lv_aload_n hx hb d_KG_asks_0 rfl (lv_at hl 0 rfl) ?_
  refine lv_iload_n hx hb d_KG_asks_1 rfl (lv_at hl 1 rfl) ?_
  refine zb_i (r := 1) hd (zrunV (n := 1) (rest := []) hC hd (e_kg hX.kg) rfl (c_KG_isFunction l G ad ow Z hX (nI k) 1 h0) q_344 q_346 qp_3 q_1 q_347 rfl rfl rfl (by decide +kernel) ⟨by decide, by decide⟩ rfl hl.1 (Nat.le_of_ble_eq_true rfl) d_KG_asks_2 ⟨by decide, by decide⟩) (fun H locs hd => ?_)
  refine lv_if_eq (tgt := 16) hx hb d_KG_asks_5 (by decide) (fun c => absurd c (by decide)) (fun _ => ?_)
  refine lv_aload_n hx hb d_KG_asks_8 rfl (lv_at hl 0 rfl) ?_
  refine lv_iload_n hx hb d_KG_asks_9 rfl (lv_at hl 2 rfl) ?_
  refine zb_i (r := 1) hd (zrunV (n := 1) (rest := []) hC hd (e_kg hX.kg) rfl (c_KG_isKey l G ad ow Z hX (nI o) 1 h1) q_348 q_350 qp_4 q_1 q_351 rfl rfl rfl (by decide +kernel) ⟨by decide, by decide⟩ rfl hl.1 (Nat.le_of_ble_eq_true rfl) d_KG_asks_10 ⟨by decide, by decide⟩) (fun H locs hd => ?_)
  refine lv_if_ne (tgt := 18) hx hb d_KG_asks_13 (by decide) (fun _ => ?_) (fun c => absurd c (by decide))
  refine lv_aload_n hx hb d_KG_asks_18 rfl (lv_at hl 0 rfl) ?_
  refine zget hC hd (e_kg hX.kg) rfl i_KG 0 (by decide) q_80 (Or.inl rfl) (v := .ref (ad 3 0)) rfl d_KG_asks_19 ?_
  refine lv_iload_n hx hb d_KG_asks_22 rfl (lv_at hl 1 rfl) ?_
  refine zb_a (r := (ad 1 k)) hd (zrunV (n := 1) (rest := []) hC hd (e_list hX.l0) rfl (c_get l G ad ow Z hX 0 k k hX.l0 (show k < xn Z 2 0 by rw [hX.kl]; exact hk) (hX.ke hk)) q_352 q_353 q_354 q_4 q_355 rfl rfl rfl (by decide +kernel) ⟨by decide, by decide⟩ rfl hl.1 (Nat.le_of_ble_eq_true rfl) d_KG_asks_23 ⟨by decide, by decide⟩) (fun H locs hd => ?_)
  refine zcast hC hd (e_key hk) q_105 d_KG_asks_26 ?_
  refine lv_astore_n (lv' := [(3, .ref (ad 1 k)), (0, .ref (ad 0 0)), (1, .int (nI k)), (2, .int (nI o))]) hx hb d_KG_asks_29 rfl hl (by decide) rfl (fun ls hl => ?_)
  refine lv_aload_n hx hb d_KG_asks_30 rfl (lv_at hl 1 rfl) ?_
  refine zget hC hd (e_kg hX.kg) rfl i_KG 0 (by decide) q_80 (Or.inl rfl) (v := .ref (ad 3 0)) rfl d_KG_asks_31 ?_
  refine lv_iload_n hx hb d_KG_asks_34 rfl (lv_at hl 3 rfl) ?_
  refine zb_a (r := (ad 1 o)) hd (zrunV (n := 1) (rest := []) hC hd (e_list hX.l0) rfl (c_get l G ad ow Z hX 0 o o hX.l0 (show o < xn Z 2 0 by rw [hX.kl]; exact ho) (hX.ke ho)) q_352 q_353 q_354 q_4 q_355 rfl rfl rfl (by decide +kernel) ⟨by decide, by decide⟩ rfl hl.1 (Nat.le_of_ble_eq_true rfl) d_KG_asks_35 ⟨by decide, by decide⟩) (fun H locs hd => ?_)
  refine zcast hC hd (e_key ho) q_105 d_KG_asks_38 ?_
  refine lv_astore (lv' := [(4, .ref (ad 1 o)), (3, .ref (ad 1 k)), (0, .ref (ad 0 0)), (1, .int (nI k)), (2, .int (nI o))]) hx hb d_KG_asks_41 hl (by decide) rfl (fun ls hl => ?_)
  refine lv_aload_n hx hb d_KG_asks_43 rfl (lv_at hl 1 rfl) ?_
  refine zgetN hC hd (e_key hk) rfl i_Key 2 (by decide) z_118 (Or.inl rfl) (v := .ref (ad 3 (k + 2))) rfl d_KG_asks_44 ?_
  refine zb_i (r := (nI (xn Z 2 (k + 2)))) hd (zrunV (n := 0) (rest := []) hC hd (e_list (hX.l hk)) rfl (c_AL_size l G ad ow Z (k + 2) (hX.l hk)) q_101 q_102 q_103 q_4 q_104 rfl rfl rfl (by decide +kernel) ⟨by decide, by decide⟩ rfl hl.1 (Nat.le_of_ble_eq_true rfl) d_KG_asks_47 ⟨by decide, by decide⟩) (fun H locs hd => ?_)
  refine lv_bipush (v := 8) hx hb d_KG_asks_50 (by decide) ?_
  refine zc_ne (x := xn Z 2 (k + 2)) (y := 8) (tgt := 57) (by omega) (by omega) hx hb d_KG_asks_52 (by decide) (fun c52 => ?_) (fun c52 => absurd c52 h88)
  refine lv_aload_n hx hb d_KG_asks_57 rfl (lv_at hl 2 rfl) ?_
  refine lv_aload_n hx hb d_KG_asks_58 rfl (lv_at hl 1 rfl) ?_
  refine zb_v hd (zrunV (n := 1) (rest := []) hC hd (e_kg hX.kg) rfl (c_KG_leadTo l G ad ow Z hX hLB k hk N Z9 hw) q_370 q_372 qp_5 q_1 q_373 rfl rfl rfl (by decide +kernel) ⟨by decide, by decide⟩ rfl hl.1 (Nat.le_of_ble_eq_true rfl) d_KG_asks_59 ⟨by decide, by decide⟩) (fun H locs hd => ?_)
  have hL : XLD Z Z9 := (x_ld0_LD k 40 Z 0).trans (x_ldW_LD N _ _ _ hw)
  have hX9 := hL.toXS hX
  have hLB9 := hL.2.2 hLB
  have hk9 : k < xn Z9 0 1 := by rw [hL.gn]; exact hk
  have ho9 : o < xn Z9 0 1 := by rw [hL.gn]; exact ho
  refine lv_aload_n hx hb d_KG_asks_62 rfl (lv_at hl 2 rfl) ?_
  refine lv_aload hx hb d_KG_asks_63 (lv_at hl 0 rfl) ?_
  refine zb_i (r := (xi Z9 15 o)) hd (zrunV (n := 1) (rest := []) hC hd (e_kg hX9.kg) rfl (c_KG_isLeading l G ad ow Z9 hX9 hLB9 o ho9) q_378 q_380 qp_7 q_1 q_381 rfl rfl rfl (by decide +kernel) ⟨by decide, by decide⟩ rfl hl.1 (Nat.le_of_ble_eq_true rfl) d_KG_asks_65 ⟨by decide, by decide⟩) (fun H locs hd => ?_)
  refine lv_if_eq (tgt := 157) hx hb d_KG_asks_68 (by decide) (fun c68 => ?_) (fun c68 => absurd hld c68)
  refine lv_aload_n hx hb d_KG_asks_157 rfl (lv_at hl 2 rfl) ?_
  refine zb_v hd (zrunV (n := 0) (rest := []) hC hd (e_kg hX9.kg) rfl (c_KG_raise l G ad ow Z9 hX9 hcp) q_386 q_388 qp_8 q_1 q_389 rfl rfl rfl (by decide +kernel) ⟨by decide, by decide⟩ rfl hl.1 (Nat.le_of_ble_eq_true rfl) d_KG_asks_158 ⟨by decide, by decide⟩) (fun H locs hd => ?_)
  have hXr : XS (x_raise Z9) := x_can_XS hX9
  have hkr : k < xn (x_raise Z9) 0 1 := by show k < xn (x_cancel Z9) 0 1; rw [x_can_xn _ _ _ (by decide)]; exact hk9
  have hor : o < xn (x_raise Z9) 0 1 := by show o < xn (x_cancel Z9) 0 1; rw [x_can_xn _ _ _ (by decide)]; exact ho9
  refine lv_aload_n hx hb d_KG_asks_161 rfl (lv_at hl 1 rfl) ?_
  refine zgetN hC hd (e_key hkr) rfl i_Key 2 (by decide) z_118 (Or.inl rfl) (v := .ref (ad 3 (k + 2))) rfl d_KG_asks_162 ?_
  refine lv_aload hx hb d_KG_asks_165 (lv_at hl 0 rfl) ?_
  refine zbackg hd (zrunV (n := 1) (rest := []) hC hd (e_list (hXr.l hkr)) rfl (c_AL_add1 l G ad ow (x_raise Z9) (k + 2) o hap hor) q_176 q_177 q_178 q_4 q_179 rfl rfl rfl (by decide +kernel) ⟨by decide, by decide⟩ rfl hl.1 (Nat.le_of_ble_eq_true rfl) d_KG_asks_167 ⟨by decide, by decide⟩) rfl rfl (fun ad9 ow Z1 v9 H locs hq hd => ?_)
  obtain ⟨a, b, had, rfl, rfl⟩ := hq
  have f0 : ad 0 0 = ad9 0 0 := by rw [← had]; rfl
  have f1 : ∀ x, ad 1 x = ad9 1 x := fun x => by rw [← had]; rfl
  have hkp : Keep ad ad9 := by rw [← had]; exact ⟨rfl, rfl, rfl⟩
  rw [f0, f1 k, f1 o] at hl
  change W _ _ _ _ _ _ _ _ _ _ _ _ _ _ _ (F0 m 170 ls [.int 1])
  have hPt : XT (x_add (x_raise Z9) (k + 2) o) := ⟨hXr.kg, hXr.l1⟩
  refine lv_pop hx hb d_KG_asks_170 rfl ?_
  refine lv_aload_n hx hb d_KG_asks_171 rfl (lv_at hl 1 rfl) ?_
  refine lv_aload_n hx hb d_KG_asks_172 rfl (lv_at hl 2 rfl) ?_
  refine zget hC hd (e_kg hPt.kg) rfl i_KG 3 (by decide) q_83 (Or.inl rfl) (v := .int (xi (x_add (x_raise Z9) (k + 2) o) 14 0)) rfl d_KG_asks_173 ?_
  refine zputN (Z' := (si (x_add (x_raise Z9) (k + 2) o) 4 k (xi (x_add (x_raise Z9) (k + 2) o) 14 0))) (v := .int (xi (x_add (x_raise Z9) (k + 2) o) 14 0)) hC hd (e_key (show k < xn (x_raise Z9) 0 1 from hkr)) rfl i_Key t_Key t_Key_ok n_Key 7 (by decide) z_124 rfl rfl rfl rfl (Nat.le_of_ble_eq_true rfl) (u_own (show k < xn (x_raise Z9) 0 1 from hkr)) d_KG_asks_176 (fun H locs hd => ?_)
  refine lv_iconst (v := 1) hx hb d_KG_asks_179 (by decide) ?_
  exact zgi hC hd hr hlk d_KG_asks_180 ⟨hkp, rfl, rfl⟩ (Nat.le_of_ble_eq_true rfl) (Nat.le_of_ble_eq_true rfl)
