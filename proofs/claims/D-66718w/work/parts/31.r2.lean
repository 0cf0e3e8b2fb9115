section
variable {p : Program} {l : Launch} {e : Env} {R : Room} {s : State} {m : MethodId} {args : Array Value} {below : List Frame} {meth : Method} {c : Code} {H : Heap} {locs : List Loc} {cells slots : Nat} {Q : State → Prop} {cc : ByteArray} {pc nL : Nat} {ls : Array Slot} {rest : List Value} {G : Gt} {ad : Nat → Nat → Nat} {ow : Nat → Nat × Nat} {Z Z' : Zt} {own : String}
theorem zaastP (hC : Cx G p c m s args own cc nL) (hd : Dy G ad ow Z s H locs) {o i n o2 i2 : Nat} {f : Nat → Option Nat} {fs : List Value} (he : ent G ad Z o i = some (rfA (gP G) n f)) (hv : ent G ad Z o2 i2 = some (.inr (7, fs))) {x : Int32} (hin : vp_in x n) (hU : Up G ad Z Z' o i (rfA (gP G) n (va_up f x.toNatClampNeg (some (ad o2 i2))))) (hdg : decode cc pc = .ok (.aastore, 1))
    (kk : ∀ (H1 : Heap) (locs1 : List Loc), Dy G ad ow Z' s H1 locs1 → W p l e R s m args below meth c H1 locs1 cells slots Q (F0 m (pc + 1) ls rest)) : W p l e R s m args below meth c H locs cells slots Q (F0 m pc ls (.ref (ad o2 i2) :: .int x :: .ref (ad o i) :: rest)) := by
  have hK := hC.2.2.2.2.2.1
  have hlt : x.toNatClampNeg < n := Nat.not_le.mp fun q => hin (Or.inr q)
  have h0 : ¬ x < 0 := fun q => hin (Or.inl q)
  obtain ⟨r', hr', cellV, g1, g2, g3, -⟩ := (hd.1 o2 i2 _ hv).1
  have hcls := (hK.1 7 ("KeyGraph$Pile", F_Pile, 2) rfl).2
  obtain ⟨kA, comp, k1, k2, k3, -⟩ := (hK.2 4 _ rfl).2
  have hcomp : comp = (gD G).1 7 := Option.some.inj (k3.symm.trans hcls.1)
  subst hcomp
  obtain ⟨kC, hkC, -⟩ := hcls.2
  refine W.aast hC.1 hC.2.1 (hd.1 o i _ he).1 (fun q h => by cases h) (fun h => by cases h) k1 k2 rfl hkC ⟨h0, by show _ < (arrV _ _ _).slots.size; rw [arrV_size]; exact hlt⟩ g1 (fun q h => by rw [g3] at h; cases h) (by rw [g2]; exact hkC) (by rw [g2]; exact va_assign hcls) rfl rfl hdg fun H1 e z oq => ?_
  refine kk H1 _ (hd.set he hU z ?_ oq)
  show H1[ad o i]? = some (vp_cell _ _)
  rw [e]
  rw [vp_cell_q, vp_cell_q, arrV_store]
  congr 2
  funext q
  by_cases hq : q = x.toNatClampNeg
  · subst hq
    simp [updV, va_up, va_rf]
  · simp [updV, va_up, hq]
end
set_option maxHeartbeats 4000000 in
theorem c_KG_made_0 (l : Launch) (G : Gt) (ad : Nat → Nat → Nat) (ow : Nat → Nat × Nat) (Z : Zt) (h13 : 50 ≤ xn Z 0 13) : Met l y_KG_made w_KG_made ({ frames := 3, cells := 1, slots := 5, locals := 61 }) (zPc G ad ow Z [.int 0]) (Qg G (fun ad9 _ Z9 v9 => ∃ a1, (ads ad [(1, a1)]) = ad9 ∧ (srs Z [(1, .inr (2, [.int 0, .int 0, .long 0, .int 0, .int 0]))]) = Z9 ∧ some (.ref a1) = v9)) 1 5 (zA G) := by
  refine zopen (cc := b_KG_made) (maxL := 1) (ret := (some (FieldType.object "KeyGraph$Function"))) (by decide) rfl (Nat.le_of_ble_eq_true rfl) ?_
  intro p e s m below meth c ls hC hr hlk hnm hd hl
  have hC : Cx G p c m s _ "KeyGraph" b_KG_made 1 := hC
  have hl : lv_has ls 1 [(0, .int 0)] := hl
  have hx := hC.1
  have hb := hC.2.1
  have hd : Dy G (ads ad []) ow (srs Z []) s s.heap [] := by rw [ads_nil, srs_nil]; exact hd
  obtain ⟨H, hH⟩ : ∃ q, q = s.heap := ⟨_, rfl⟩
  obtain ⟨locs, hlocs⟩ : ∃ q : List Loc, q = [] := ⟨_, rfl⟩
  rw [← hH, ← hlocs] at hd
  rw [← hH, ← hlocs]
  refine lv_iload_n hx hb d_KG_made_0 rfl (lv_at hl 0 rfl) ?_
  refine lv_tableIn (tgt := 36) hx hb d_KG_made_1 (by decide) (by decide) (by first | rfl | decide) (by decide) ?_
  refine znew (ci := 2) (ad := (ads ad [])) (rest := []) (fs := [.int 0, .int 0, .long 0, .int 0, .int 0]) hC hd rfl i_Sum t_Sum t_Sum_ok q_242 q_243 q_13 df_Sum 1 (show 1 < xn Z 0 13 by omega) (Nat.le_of_ble_eq_true rfl) (Nat.le_of_ble_eq_true rfl) d_KG_made_36 (fun a1 ow H hd => ?_)
  have hd := Dy.norm (A' := [(1, a1)]) (L' := [(1, .inr (2, [.int 0, .int 0, .long 0, .int 0, .int 0]))]) hd rfl rfl
  refine lv_dup hx hb d_KG_made_39 rfl ?_
  refine lv_iconst (v := 0) hx hb d_KG_made_40 (by decide) ?_
  refine zbackg hd (zrunI (n := 1) (rest := [.ref a1]) hC hd (c_Sum_init l G (ads ad [(1, a1)]) ow (srs Z [(1, .inr (2, [.int 0, .int 0, .long 0, .int 0, .int 0]))]) (show 50 ≤ xn Z 0 13 from h13) rfl 0 (by decide)) q_244 q_245 q_13 q_246 rfl rfl rfl rfl ⟨by decide, by decide, by decide +kernel⟩ ⟨by decide, by decide⟩ rfl hl.1 (Nat.le_of_ble_eq_true rfl) d_KG_made_41 ⟨by decide, by decide⟩) rfl rfl (fun ad9 ow Z9 v9 H locs hq hd => ?_)
  obtain ⟨rfl, rfl, rfl⟩ := hq
  have hd := Dy.normC (A' := [(1, a1)]) (L' := [(1, .inr (2, [.int 0, .int 0, .long 0, .int 0, .int 0]))]) hd rfl rfl rfl rfl
  exact zga hC hd hr (Or.inl ⟨_, rfl⟩) hlk d_KG_made_44 ⟨a1, rfl, rfl, rfl⟩ (Nat.le_of_ble_eq_true rfl) (Nat.le_of_ble_eq_true rfl)
set_option maxHeartbeats 4000000 in
theorem c_KG_made_1 (l : Launch) (G : Gt) (ad : Nat → Nat → Nat) (ow : Nat → Nat × Nat) (Z : Zt) (h13 : 50 ≤ xn Z 0 13) : Met l y_KG_made w_KG_made ({ frames := 3, cells := 1, slots := 4, locals := 60 }) (zPc G ad ow Z [.int 1]) (Qg G (fun ad9 _ Z9 v9 => ∃ a1, (ads ad [(1, a1)]) = ad9 ∧ (srs Z [(1, .inr (3, [.int 0, .int 0, .long 0, .int 0]))]) = Z9 ∧ some (.ref a1) = v9)) 1 4 (zA G) := by
  refine zopen (cc := b_KG_made) (maxL := 1) (ret := (some (FieldType.object "KeyGraph$Function"))) (by decide) rfl (Nat.le_of_ble_eq_true rfl) ?_
  intro p e s m below meth c ls hC hr hlk hnm hd hl
  have hC : Cx G p c m s _ "KeyGraph" b_KG_made 1 := hC
  have hl : lv_has ls 1 [(0, .int 1)] := hl
  have hx := hC.1
  have hb := hC.2.1
  have hd : Dy G (ads ad []) ow (srs Z []) s s.heap [] := by rw [ads_nil, srs_nil]; exact hd
  obtain ⟨H, hH⟩ : ∃ q, q = s.heap := ⟨_, rfl⟩
  obtain ⟨locs, hlocs⟩ : ∃ q : List Loc, q = [] := ⟨_, rfl⟩
  rw [← hH, ← hlocs] at hd
  rw [← hH, ← hlocs]
  refine lv_iload_n hx hb d_KG_made_0 rfl (lv_at hl 0 rfl) ?_
  refine lv_tableIn (tgt := 45) hx hb d_KG_made_1 (by decide) (by decide) (by first | rfl | decide) (by decide) ?_
  refine znew (ci := 3) (ad := (ads ad [])) (rest := []) (fs := [.int 0, .int 0, .long 0, .int 0]) hC hd rfl i_First t_First t_First_ok q_293 q_294 q_14 df_First 1 (show 1 < xn Z 0 13 by omega) (Nat.le_of_ble_eq_true rfl) (Nat.le_of_ble_eq_true rfl) d_KG_made_45 (fun a1 ow H hd => ?_)
  have hd := Dy.norm (A' := [(1, a1)]) (L' := [(1, .inr (3, [.int 0, .int 0, .long 0, .int 0]))]) hd rfl rfl
  refine lv_dup hx hb d_KG_made_48 rfl ?_
  refine zbackg hd (zrunIN (host := "KeyGraph") (n := 0) (rest := [.ref a1]) hC hd (c_First_init l G (ads ad [(1, a1)]) ow (srs Z [(1, .inr (3, [.int 0, .int 0, .long 0, .int 0]))]) (show 50 ≤ xn Z 0 13 from h13)) z_295 q_296 q_14 q_297 rfl rfl rfl rfl ⟨by decide, by decide, by decide +kernel⟩ ⟨by decide, by decide⟩ rfl hl.1 (Nat.le_of_ble_eq_true rfl) d_KG_made_49 ⟨by decide, by decide⟩) rfl rfl (fun ad9 ow Z9 v9 H locs hq hd => ?_)
  obtain ⟨rfl, rfl, rfl⟩ := hq
  have hd := Dy.normC (A' := [(1, a1)]) (L' := [(1, .inr (3, [.int 0, .int 0, .long 0, .int 0]))]) hd rfl rfl rfl rfl
  exact zga hC hd hr (Or.inl ⟨_, rfl⟩) hlk d_KG_made_52 ⟨a1, rfl, rfl, rfl⟩ (Nat.le_of_ble_eq_true rfl) (Nat.le_of_ble_eq_true rfl)
set_option maxHeartbeats 4000000 in
theorem c_KG_made_2 (l : Launch) (G : Gt) (ad : Nat → Nat → Nat) (ow : Nat → Nat × Nat) (Z : Zt) (h13 : 50 ≤ xn Z 0 13) : Met l y_KG_made w_KG_made ({ frames := 3, cells := 1, slots := 5, locals := 60 }) (zPc G ad ow Z [.int 2]) (Qg G (fun ad9 _ Z9 v9 => ∃ a1, (ads ad [(1, a1)]) = ad9 ∧ (srs Z [(1, .inr (4, [.int 0, .int 0, .long 0, .int 0, .int 0]))]) = Z9 ∧ some (.ref a1) = v9)) 1 5 (zA G) := by
  refine zopen (cc := b_KG_made) (maxL := 1) (ret := (some (FieldType.object "KeyGraph$Function"))) (by decide) rfl (Nat.le_of_ble_eq_true rfl) ?_
  intro p e s m below meth c ls hC hr hlk hnm hd hl
  have hC : Cx G p c m s _ "KeyGraph" b_KG_made 1 := hC
  have hl : lv_has ls 1 [(0, .int 2)] := hl
  have hx := hC.1
  have hb := hC.2.1
  have hd : Dy G (ads ad []) ow (srs Z []) s s.heap [] := by rw [ads_nil, srs_nil]; exact hd
  obtain ⟨H, hH⟩ : ∃ q, q = s.heap := ⟨_, rfl⟩
  obtain ⟨locs, hlocs⟩ : ∃ q : List Loc, q = [] := ⟨_, rfl⟩
  rw [← hH, ← hlocs] at hd
  rw [← hH, ← hlocs]
  refine lv_iload_n hx hb d_KG_made_0 rfl (lv_at hl 0 rfl) ?_
  refine lv_tableIn (tgt := 53) hx hb d_KG_made_1 (by decide) (by decide) (by first | rfl | decide) (by decide) ?_
  refine znew (ci := 4) (ad := (ads ad [])) (rest := []) (fs := [.int 0, .int 0, .long 0, .int 0, .int 0]) hC hd rfl i_Choice t_Choice t_Choice_ok q_304 q_305 q_15 df_Choice 1 (show 1 < xn Z 0 13 by omega) (Nat.le_of_ble_eq_true rfl) (Nat.le_of_ble_eq_true rfl) d_KG_made_53 (fun a1 ow H hd => ?_)
  have hd := Dy.norm (A' := [(1, a1)]) (L' := [(1, .inr (4, [.int 0, .int 0, .long 0, .int 0, .int 0]))]) hd rfl rfl
  refine lv_dup hx hb d_KG_made_56 rfl ?_
  refine zbackg hd (zrunIN (host := "KeyGraph") (n := 0) (rest := [.ref a1]) hC hd (c_Choice_init l G (ads ad [(1, a1)]) ow (srs Z [(1, .inr (4, [.int 0, .int 0, .long 0, .int 0, .int 0]))]) (show 50 ≤ xn Z 0 13 from h13)) z_306 q_307 q_15 q_308 rfl rfl rfl rfl ⟨by decide, by decide, by decide +kernel⟩ ⟨by decide, by decide⟩ rfl hl.1 (Nat.le_of_ble_eq_true rfl) d_KG_made_57 ⟨by decide, by decide⟩) rfl rfl (fun ad9 ow Z9 v9 H locs hq hd => ?_)
  obtain ⟨rfl, rfl, rfl⟩ := hq
  have hd := Dy.normC (A' := [(1, a1)]) (L' := [(1, .inr (4, [.int 0, .int 0, .long 0, .int 0, .int 0]))]) hd rfl rfl rfl rfl
  exact zga hC hd hr (Or.inl ⟨_, rfl⟩) hlk d_KG_made_60 ⟨a1, rfl, rfl, rfl⟩ (Nat.le_of_ble_eq_true rfl) (Nat.le_of_ble_eq_true rfl)
set_option maxHeartbeats 4000000 in
theorem c_KG_made_3 (l : Launch) (G : Gt) (ad : Nat → Nat → Nat) (ow : Nat → Nat × Nat) (Z : Zt) (h13 : 50 ≤ xn Z 0 13) : Met l y_KG_made w_KG_made ({ frames := 3, cells := 1, slots := 4, locals := 60 }) (zPc G ad ow Z [.int 3]) (Qg G (fun ad9 _ Z9 v9 => ∃ a1, (ads ad [(1, a1)]) = ad9 ∧ (srs Z [(1, .inr (5, [.int 0, .int 0, .long 0, .int 0]))]) = Z9 ∧ some (.ref a1) = v9)) 1 4 (zA G) := by
  refine zopen (cc := b_KG_made) (maxL := 1) (ret := (some (FieldType.object "KeyGraph$Function"))) (by decide) rfl (Nat.le_of_ble_eq_true rfl) ?_
  intro p e s m below meth c ls hC hr hlk hnm hd hl
  have hC : Cx G p c m s _ "KeyGraph" b_KG_made 1 := hC
  have hl : lv_has ls 1 [(0, .int 3)] := hl
  have hx := hC.1
  have hb := hC.2.1
  have hd : Dy G (ads ad []) ow (srs Z []) s s.heap [] := by rw [ads_nil, srs_nil]; exact hd
  obtain ⟨H, hH⟩ : ∃ q, q = s.heap := ⟨_, rfl⟩
  obtain ⟨locs, hlocs⟩ : ∃ q : List Loc, q = [] := ⟨_, rfl⟩
  rw [← hH, ← hlocs] at hd
  rw [← hH, ← hlocs]
  refine lv_iload_n hx hb d_KG_made_0 rfl (lv_at hl 0 rfl) ?_
  refine lv_tableIn (tgt := 61) hx hb d_KG_made_1 (by decide) (by decide) (by first | rfl | decide) (by decide) ?_
  refine znew (ci := 5) (ad := (ads ad [])) (rest := []) (fs := [.int 0, .int 0, .long 0, .int 0]) hC hd rfl i_Quot t_Quot t_Quot_ok q_318 q_319 q_16 df_Quot 1 (show 1 < xn Z 0 13 by omega) (Nat.le_of_ble_eq_true rfl) (Nat.le_of_ble_eq_true rfl) d_KG_made_61 (fun a1 ow H hd => ?_)
  have hd := Dy.norm (A' := [(1, a1)]) (L' := [(1, .inr (5, [.int 0, .int 0, .long 0, .int 0]))]) hd rfl rfl
  refine lv_dup hx hb d_KG_made_64 rfl ?_
  refine zbackg hd (zrunIN (host := "KeyGraph") (n := 0) (rest := [.ref a1]) hC hd (c_Quot_init l G (ads ad [(1, a1)]) ow (srs Z [(1, .inr (5, [.int 0, .int 0, .long 0, .int 0]))]) (show 50 ≤ xn Z 0 13 from h13)) z_320 q_321 q_16 q_322 rfl rfl rfl rfl ⟨by decide, by decide, by decide +kernel⟩ ⟨by decide, by decide⟩ rfl hl.1 (Nat.le_of_ble_eq_true rfl) d_KG_made_65 ⟨by decide, by decide⟩) rfl rfl (fun ad9 ow Z9 v9 H locs hq hd => ?_)
  obtain ⟨rfl, rfl, rfl⟩ := hq
  have hd := Dy.normC (A' := [(1, a1)]) (L' := [(1, .inr (5, [.int 0, .int 0, .long 0, .int 0]))]) hd rfl rfl rfl rfl
  exact zga hC hd hr (Or.inl ⟨_, rfl⟩) hlk d_KG_made_68 ⟨a1, rfl, rfl, rfl⟩ (Nat.le_of_ble_eq_true rfl) (Nat.le_of_ble_eq_true rfl)
set_option maxHeartbeats 4000000 in
theorem c_KG_made_4 (l : Launch) (G : Gt) (ad : Nat → Nat → Nat) (ow : Nat → Nat × Nat) (Z : Zt) (h13 : 50 ≤ xn Z 0 13) : Met l y_KG_made w_KG_made ({ frames := 3, cells := 1, slots := 5, locals := 61 }) (zPc G ad ow Z [.int 4]) (Qg G (fun ad9 _ Z9 v9 => ∃ a1, (ads ad [(1, a1)]) = ad9 ∧ (srs Z [(1, .inr (2, [.int 0, .int 0, .long 0, .int 0, .int 1]))]) = Z9 ∧ some (.ref a1) = v9)) 1 5 (zA G) := by
  refine zopen (cc := b_KG_made) (maxL := 1) (ret := (some (FieldType.object "KeyGraph$Function"))) (by decide) rfl (Nat.le_of_ble_eq_true rfl) ?_
  intro p e s m below meth c ls hC hr hlk hnm hd hl
  have hC : Cx G p c m s _ "KeyGraph" b_KG_made 1 := hC
  have hl : lv_has ls 1 [(0, .int 4)] := hl
  have hx := hC.1
  have hb := hC.2.1
  have hd : Dy G (ads ad []) ow (srs Z []) s s.heap [] := by rw [ads_nil, srs_nil]; exact hd
  obtain ⟨H, hH⟩ : ∃ q, q = s.heap := ⟨_, rfl⟩
  obtain ⟨locs, hlocs⟩ : ∃ q : List Loc, q = [] := ⟨_, rfl⟩
  rw [← hH, ← hlocs] at hd
  rw [← hH, ← hlocs]
  refine lv_iload_n hx hb d_KG_made_0 rfl (lv_at hl 0 rfl) ?_
  refine lv_tableIn (tgt := 69) hx hb d_KG_made_1 (by decide) (by decide) (by first | rfl | decide) (by decide) ?_
  refine znew (ci := 2) (ad := (ads ad [])) (rest := []) (fs := [.int 0, .int 0, .long 0, .int 0, .int 0]) hC hd rfl i_Sum t_Sum t_Sum_ok q_242 q_243 q_13 df_Sum 1 (show 1 < xn Z 0 13 by omega) (Nat.le_of_ble_eq_true rfl) (Nat.le_of_ble_eq_true rfl) d_KG_made_69 (fun a1 ow H hd => ?_)
  have hd := Dy.norm (A' := [(1, a1)]) (L' := [(1, .inr (2, [.int 0, .int 0, .long 0, .int 0, .int 0]))]) hd rfl rfl
  refine lv_dup hx hb d_KG_made_72 rfl ?_
  refine lv_iconst (v := 1) hx hb d_KG_made_73 (by decide) ?_
  refine zbackg hd (zrunI (n := 1) (rest := [.ref a1]) hC hd (c_Sum_init l G (ads ad [(1, a1)]) ow (srs Z [(1, .inr (2, [.int 0, .int 0, .long 0, .int 0, .int 0]))]) (show 50 ≤ xn Z 0 13 from h13) rfl 1 (by decide)) q_244 q_245 q_13 q_246 rfl rfl rfl rfl ⟨by decide, by decide, by decide +kernel⟩ ⟨by decide, by decide⟩ rfl hl.1 (Nat.le_of_ble_eq_true rfl) d_KG_made_74 ⟨by decide, by decide⟩) rfl rfl (fun ad9 ow Z9 v9 H locs hq hd => ?_)
  obtain ⟨rfl, rfl, rfl⟩ := hq
  have hd := Dy.normC (A' := [(1, a1)]) (L' := [(1, .inr (2, [.int 0, .int 0, .long 0, .int 0, .int 1]))]) hd rfl rfl rfl rfl
  exact zga hC hd hr (Or.inl ⟨_, rfl⟩) hlk d_KG_made_77 ⟨a1, rfl, rfl, rfl⟩ (Nat.le_of_ble_eq_true rfl) (Nat.le_of_ble_eq_true rfl)
set_option maxHeartbeats 4000000 in
theorem c_KG_made_5 (l : Launch) (G : Gt) (ad : Nat → Nat → Nat) (ow : Nat → Nat × Nat) (Z : Zt) (h13 : 50 ≤ xn Z 0 13) : Met l y_KG_made w_KG_made ({ frames := 3, cells := 1, slots := 4, locals := 60 }) (zPc G ad ow Z [.int 5]) (Qg G (fun ad9 _ Z9 v9 => ∃ a1, (ads ad [(1, a1)]) = ad9 ∧ (srs Z [(1, .inr (6, [.int 0, .int 0, .long 0, .int 0]))]) = Z9 ∧ some (.ref a1) = v9)) 1 4 (zA G) := by
  refine zopen (cc := b_KG_made) (maxL := 1) (ret := (some (FieldType.object "KeyGraph$Function"))) (by decide) rfl (Nat.le_of_ble_eq_true rfl) ?_
  intro p e s m below meth c ls hC hr hlk hnm hd hl
  have hC : Cx G p c m s _ "KeyGraph" b_KG_made 1 := hC
  have hl : lv_has ls 1 [(0, .int 5)] := hl
  have hx := hC.1
  have hb := hC.2.1
  have hd : Dy G (ads ad []) ow (srs Z []) s s.heap [] := by rw [ads_nil, srs_nil]; exact hd
  obtain ⟨H, hH⟩ : ∃ q, q = s.heap := ⟨_, rfl⟩
  obtain ⟨locs, hlocs⟩ : ∃ q : List Loc, q = [] := ⟨_, rfl⟩
  rw [← hH, ← hlocs] at hd
  rw [← hH, ← hlocs]
  refine lv_iload_n hx hb d_KG_made_0 rfl (lv_at hl 0 rfl) ?_
  refine lv_tableOut (tgt := 78) hx hb d_KG_made_1 (by decide) (by decide) ?_
  refine znew (ci := 6) (ad := (ads ad [])) (rest := []) (fs := [.int 0, .int 0, .long 0, .int 0]) hC hd rfl i_Great t_Great t_Great_ok q_329 q_330 q_17 df_Great 1 (show 1 < xn Z 0 13 by omega) (Nat.le_of_ble_eq_true rfl) (Nat.le_of_ble_eq_true rfl) d_KG_made_78 (fun a1 ow H hd => ?_)
  have hd := Dy.norm (A' := [(1, a1)]) (L' := [(1, .inr (6, [.int 0, .int 0, .long 0, .int 0]))]) hd rfl rfl
  refine lv_dup hx hb d_KG_made_81 rfl ?_
  refine zbackg hd (zrunIN (host := "KeyGraph") (n := 0) (rest := [.ref a1]) hC hd (c_Great_init l G (ads ad [(1, a1)]) ow (srs Z [(1, .inr (6, [.int 0, .int 0, .long 0, .int 0]))]) (show 50 ≤ xn Z 0 13 from h13)) z_331 q_332 q_17 q_333 rfl rfl rfl rfl ⟨by decide, by decide, by decide +kernel⟩ ⟨by decide, by decide⟩ rfl hl.1 (Nat.le_of_ble_eq_true rfl) d_KG_made_82 ⟨by decide, by decide⟩) rfl rfl (fun ad9 ow Z9 v9 H locs hq hd => ?_)
  obtain ⟨rfl, rfl, rfl⟩ := hq
  have hd := Dy.normC (A' := [(1, a1)]) (L' := [(1, .inr (6, [.int 0, .int 0, .long 0, .int 0]))]) hd rfl rfl rfl rfl
  exact zga hC hd hr (Or.inl ⟨_, rfl⟩) hlk d_KG_made_85 ⟨a1, rfl, rfl, rfl⟩ (Nat.le_of_ble_eq_true rfl) (Nat.le_of_ble_eq_true rfl)
set_option maxHeartbeats 4000000 in
theorem c_KG_piles (l : Launch) (G : Gt) (ad : Nat → Nat → Nat) (ow : Nat → Nat × Nat) (Z : Zt) (h13 : 50 ≤ xn Z 0 13) : Met l y_KG_piles w_KG_piles ({ frames := 2, cells := 11, slots := 215, locals := 40 }) (zPc G ad ow Z []) (Qg G (fun ad9 _ Z9 v9 => ∃ a2, ∃ a10, ∃ b18_a11, ∃ a12, ∃ b18_a13, ∃ a14, ∃ b18_a15, ∃ a16, ∃ b18_a17, ∃ a18, ∃ b18_a19, (ads ad [(2, a2), (10, a10), (11, b18_a11), (12, a12), (13, b18_a13), (14, a14), (15, b18_a15), (16, a16), (17, b18_a17), (18, a18), (19, b18_a19)]) = ad9 ∧ (srs Z [(2, rfA (gP G) 5 (va_up (va_up (va_up (va_up (va_up (fun _ => none) 0 (some a10)) 1 (some a12)) 2 (some a14)) 3 (some a16)) 4 (some a18))), (10, .inr (7, [.ref b18_a11, .int 0])), (11, rfA (gK G) 40 (fun _ => none)), (12, .inr (7, [.ref b18_a13, .int 0])), (13, rfA (gK G) 40 (fun _ => none)), (14, .inr (7, [.ref b18_a15, .int 0])), (15, rfA (gK G) 40 (fun _ => none)), (16, .inr (7, [.ref b18_a17, .int 0])), (17, rfA (gK G) 40 (fun _ => none)), (18, .inr (7, [.ref b18_a19, .int 0])), (19, rfA (gK G) 40 (fun _ => none))]) = Z9 ∧ some (.ref a2) = v9)) 11 215 (zA G) := by
  refine zopen (cc := b_KG_piles) (maxL := 2) (ret := (some (FieldType.array (FieldType.object "KeyGraph$Pile")))) (by decide) rfl (Nat.le_of_ble_eq_true rfl) ?_
  intro p e s m below meth c ls hC hr hlk hnm hd hl
  have hC : Cx G p c m s _ "KeyGraph" b_KG_piles 2 := hC
  have hl : lv_has ls 2 [] := hl
  have hx := hC.1
  have hb := hC.2.1
  have hd : Dy G (ads ad []) ow (srs Z []) s s.heap [] := by rw [ads_nil, srs_nil]; exact hd
  obtain ⟨H, hH⟩ : ∃ q, q = s.heap := ⟨_, rfl⟩
  obtain ⟨locs, hlocs⟩ : ∃ q : List Loc, q = [] := ⟨_, rfl⟩
  rw [← hH, ← hlocs] at hd
  rw [← hH, ← hlocs]
  refine lv_iconst (v := 5) hx hb d_KG_piles_0 (by decide) ?_
  refine znewP (ad := (ads ad [])) (rest := []) hC hd 5 q_62 (by decide) (by decide) (Nat.le_of_ble_eq_true rfl) 2 (show 2 < xn Z 0 13 by omega) (Nat.le_of_ble_eq_true rfl) (Nat.le_of_ble_eq_true rfl) d_KG_piles_1 (fun a2 ow H hd => ?_)
  have hd := Dy.norm (A' := [(2, a2)]) (L' := [(2, rfA (gP G) 5 (fun _ => none))]) hd rfl rfl
  refine lv_astore_n (lv' := [(0, .ref a2)]) hx hb d_KG_piles_4 rfl hl (by decide) rfl (fun ls hl => ?_)
  refine lv_iconst (v := 0) hx hb d_KG_piles_5 (by decide) ?_
  refine lv_istore_n (lv' := [(1, .int 0), (0, .ref a2)]) hx hb d_KG_piles_6 rfl hl (by decide) rfl (fun ls hl => ?_)
  refine lv_iload_n hx hb d_KG_piles_7 rfl (lv_at hl 0 rfl) ?_
  refine lv_iconst (v := 4) hx hb d_KG_piles_8 (by decide) ?_
  refine lv_icmp_gt (tgt := 28) hx hb d_KG_piles_9 (by decide) (fun c => absurd c (by decide)) (fun _ => ?_)
  refine lv_aload_n hx hb d_KG_piles_12 rfl (lv_at hl 1 rfl) ?_
  refine lv_iload_n hx hb d_KG_piles_13 rfl (lv_at hl 0 rfl) ?_
  refine znew (ci := 7) (ad := (ads ad [(2, a2)])) (rest := [.int 0, .ref a2]) (fs := [.null, .int 0]) hC hd rfl i_Pile t_Pile t_Pile_ok q_62 q_64 q_5 df_Pile 10 (show 10 < xn Z 0 13 by omega) (Nat.le_of_ble_eq_true rfl) (Nat.le_of_ble_eq_true rfl) d_KG_piles_14 (fun a10 ow H hd => ?_)
  have hd := Dy.norm (A' := [(2, a2), (10, a10)]) (L' := [(2, rfA (gP G) 5 (fun _ => none)), (10, .inr (7, [.null, .int 0]))]) hd rfl rfl
  refine lv_dup hx hb d_KG_piles_17 rfl ?_
  refine zbackg hd (zrunIN (host := "KeyGraph") (n := 0) (rest := [.ref a10, .int 0, .ref a2]) hC hd (c_Pile_init_10 l G (ads ad [(2, a2), (10, a10)]) ow (srs Z [(2, rfA (gP G) 5 (fun _ => none)), (10, .inr (7, [.null, .int 0]))]) (show 50 ≤ xn Z 0 13 from h13) rfl) z_65 q_66 q_5 q_67 rfl rfl rfl rfl ⟨by decide, by decide, by decide +kernel⟩ ⟨by decide, by decide⟩ rfl hl.1 (Nat.le_of_ble_eq_true rfl) d_KG_piles_18 ⟨by decide, by decide⟩) rfl rfl (fun ad9 ow Z9 v9 H locs hq hd => ?_)
  obtain ⟨b18_a11, rfl, rfl, rfl⟩ := hq
  have hd := Dy.normC (A' := [(2, a2), (10, a10), (11, b18_a11)]) (L' := [(2, rfA (gP G) 5 (fun _ => none)), (10, .inr (7, [.ref b18_a11, .int 0])), (11, rfA (gK G) 40 (fun _ => none))]) hd rfl rfl rfl rfl
  refine zaastP (Z' := (sr (srs Z [(2, rfA (gP G) 5 (fun _ => none)), (10, .inr (7, [.ref b18_a11, .int 0])), (11, rfA (gK G) 40 (fun _ => none))]) 2 (some (rfA (gP G) 5 (va_up (fun _ => none) 0 (some a10)))))) (ad := (ads ad [(2, a2), (10, a10), (11, b18_a11)])) (o := 13) (i := 2) (o2 := 13) (i2 := 10) (f := fun _ => none) hC hd (e_raw (show 2 < xn Z 0 13 by omega) rfl) (e_raw (ad := (ads ad [(2, a2), (10, a10), (11, b18_a11)])) (Z := (srs Z [(2, rfA (gP G) 5 (fun _ => none)), (10, .inr (7, [.ref b18_a11, .int 0])), (11, rfA (gK G) 40 (fun _ => none))])) (e := .inr (7, [.ref b18_a11, .int 0])) (show 10 < xn Z 0 13 by omega) rfl) (zinL (by decide)) (u_raw (show 2 < xn Z 0 13 by omega)) d_KG_piles_21 (fun H locs hd => ?_)
  have hd := Dy.norm0 (L' := [(2, rfA (gP G) 5 (va_up (fun _ => none) 0 (some a10))), (10, .inr (7, [.ref b18_a11, .int 0])), (11, rfA (gK G) 40 (fun _ => none))]) hd rfl
  refine lv_iinc (v := 1) (lv' := [(1, .int 1), (0, .ref a2)]) hx hb d_KG_piles_22 hl (k := 0) rfl (by decide) (by decide) rfl (fun ls hl => ?_)
  refine lv_goto (tgt := 7) hx hb d_KG_piles_25 (by decide) ?_
  refine lv_iload_n hx hb d_KG_piles_7 rfl (lv_at hl 0 rfl) ?_
  refine lv_iconst (v := 4) hx hb d_KG_piles_8 (by decide) ?_
  refine lv_icmp_gt (tgt := 28) hx hb d_KG_piles_9 (by decide) (fun c => absurd c (by decide)) (fun _ => ?_)
  refine lv_aload_n hx hb d_KG_piles_12 rfl (lv_at hl 1 rfl) ?_
  refine lv_iload_n hx hb d_KG_piles_13 rfl (lv_at hl 0 rfl) ?_
  refine znew (ci := 7) (ad := (ads ad [(2, a2), (10, a10), (11, b18_a11)])) (rest := [.int 1, .ref a2]) (fs := [.null, .int 0]) hC hd rfl i_Pile t_Pile t_Pile_ok q_62 q_64 q_5 df_Pile 12 (show 12 < xn Z 0 13 by omega) (Nat.le_of_ble_eq_true rfl) (Nat.le_of_ble_eq_true rfl) d_KG_piles_14 (fun a12 ow H hd => ?_)
  have hd := Dy.norm (A' := [(2, a2), (10, a10), (11, b18_a11), (12, a12)]) (L' := [(2, rfA (gP G) 5 (va_up (fun _ => none) 0 (some a10))), (10, .inr (7, [.ref b18_a11, .int 0])), (11, rfA (gK G) 40 (fun _ => none)), (12, .inr (7, [.null, .int 0]))]) hd rfl rfl
  refine lv_dup hx hb d_KG_piles_17 rfl ?_
  refine zbackg hd (zrunIN (host := "KeyGraph") (n := 0) (rest := [.ref a12, .int 1, .ref a2]) hC hd (c_Pile_init_12 l G (ads ad [(2, a2), (10, a10), (11, b18_a11), (12, a12)]) ow (srs Z [(2, rfA (gP G) 5 (va_up (fun _ => none) 0 (some a10))), (10, .inr (7, [.ref b18_a11, .int 0])), (11, rfA (gK G) 40 (fun _ => none)), (12, .inr (7, [.null, .int 0]))]) (show 50 ≤ xn Z 0 13 from h13) rfl) z_65 q_66 q_5 q_67 rfl rfl rfl rfl ⟨by decide, by decide, by decide +kernel⟩ ⟨by decide, by decide⟩ rfl hl.1 (Nat.le_of_ble_eq_true rfl) d_KG_piles_18 ⟨by decide, by decide⟩) rfl rfl (fun ad9 ow Z9 v9 H locs hq hd => ?_)
  obtain ⟨b18_a13, rfl, rfl, rfl⟩ := hq
  have hd := Dy.normC (A' := [(2, a2), (10, a10), (11, b18_a11), (12, a12), (13, b18_a13)]) (L' := [(2, rfA (gP G) 5 (va_up (fun _ => none) 0 (some a10))), (10, .inr (7, [.ref b18_a11, .int 0])), (11, rfA (gK G) 40 (fun _ => none)), (12, .inr (7, [.ref b18_a13, .int 0])), (13, rfA (gK G) 40 (fun _ => none))]) hd rfl rfl rfl rfl
  refine zaastP (Z' := (sr (srs Z [(2, rfA (gP G) 5 (va_up (fun _ => none) 0 (some a10))), (10, .inr (7, [.ref b18_a11, .int 0])), (11, rfA (gK G) 40 (fun _ => none)), (12, .inr (7, [.ref b18_a13, .int 0])), (13, rfA (gK G) 40 (fun _ => none))]) 2 (some (rfA (gP G) 5 (va_up (va_up (fun _ => none) 0 (some a10)) 1 (some a12)))))) (ad := (ads ad [(2, a2), (10, a10), (11, b18_a11), (12, a12), (13, b18_a13)])) (o := 13) (i := 2) (o2 := 13) (i2 := 12) (f := va_up (fun _ => none) 0 (some a10)) hC hd (e_raw (show 2 < xn Z 0 13 by omega) rfl) (e_raw (ad := (ads ad [(2, a2), (10, a10), (11, b18_a11), (12, a12), (13, b18_a13)])) (Z := (srs Z [(2, rfA (gP G) 5 (va_up (fun _ => none) 0 (some a10))), (10, .inr (7, [.ref b18_a11, .int 0])), (11, rfA (gK G) 40 (fun _ => none)), (12, .inr (7, [.ref b18_a13, .int 0])), (13, rfA (gK G) 40 (fun _ => none))])) (e := .inr (7, [.ref b18_a13, .int 0])) (show 12 < xn Z 0 13 by omega) rfl) (zinL (by decide)) (u_raw (show 2 < xn Z 0 13 by omega)) d_KG_piles_21 (fun H locs hd => ?_)
  have hd := Dy.norm0 (L' := [(2, rfA (gP G) 5 (va_up (va_up (fun _ => none) 0 (some a10)) 1 (some a12))), (10, .inr (7, [.ref b18_a11, .int 0])), (11, rfA (gK G) 40 (fun _ => none)), (12, .inr (7, [.ref b18_a13, .int 0])), (13, rfA (gK G) 40 (fun _ => none))]) hd rfl
  refine lv_iinc (v := 2) (lv' := [(1, .int 2), (0, .ref a2)]) hx hb d_KG_piles_22 hl (k := 0) rfl (by decide) (by decide) rfl (fun ls hl => ?_)
  refine lv_goto (tgt := 7) hx hb d_KG_piles_25 (by decide) ?_
  refine lv_iload_n hx hb d_KG_piles_7 rfl (lv_at hl 0 rfl) ?_
  refine lv_iconst (v := 4) hx hb d_KG_piles_8 (by decide) ?_
  refine lv_icmp_gt (tgt := 28) hx hb d_KG_piles_9 (by decide) (fun c => absurd c (by decide)) (fun _ => ?_)
  refine lv_aload_n hx hb d_KG_piles_12 rfl (lv_at hl 1 rfl) ?_
  refine lv_iload_n hx hb d_KG_piles_13 rfl (lv_at hl 0 rfl) ?_
  refine znew (ci := 7) (ad := (ads ad [(2, a2), (10, a10), (11, b18_a11), (12, a12), (13, b18_a13)])) (rest := [.int 2, .ref a2]) (fs := [.null, .int 0]) hC hd rfl i_Pile t_Pile t_Pile_ok q_62 q_64 q_5 df_Pile 14 (show 14 < xn Z 0 13 by omega) (Nat.le_of_ble_eq_true rfl) (Nat.le_of_ble_eq_true rfl) d_KG_piles_14 (fun a14 ow H hd => ?_)
  have hd := Dy.norm (A' := [(2, a2), (10, a10), (11, b18_a11), (12, a12), (13, b18_a13), (14, a14)]) (L' := [(2, rfA (gP G) 5 (va_up (va_up (fun _ => none) 0 (some a10)) 1 (some a12))), (10, .inr (7, [.ref b18_a11, .int 0])), (11, rfA (gK G) 40 (fun _ => none)), (12, .inr (7, [.ref b18_a13, .int 0])), (13, rfA (gK G) 40 (fun _ => none)), (14, .inr (7, [.null, .int 0]))]) hd rfl rfl
  refine lv_dup hx hb d_KG_piles_17 rfl ?_
  refine zbackg hd (zrunIN (host := "KeyGraph") (n := 0) (rest := [.ref a14, .int 2, .ref a2]) hC hd (c_Pile_init_14 l G (ads ad [(2, a2), (10, a10), (11, b18_a11), (12, a12), (13, b18_a13), (14, a14)]) ow (srs Z [(2, rfA (gP G) 5 (va_up (va_up (fun _ => none) 0 (some a10)) 1 (some a12))), (10, .inr (7, [.ref b18_a11, .int 0])), (11, rfA (gK G) 40 (fun _ => none)), (12, .inr (7, [.ref b18_a13, .int 0])), (13, rfA (gK G) 40 (fun _ => none)), (14, .inr (7, [.null, .int 0]))]) (show 50 ≤ xn Z 0 13 from h13) rfl) z_65 q_66 q_5 q_67 rfl rfl rfl rfl ⟨by decide, by decide, by decide +kernel⟩ ⟨by decide, by decide⟩ rfl hl.1 (Nat.le_of_ble_eq_true rfl) d_KG_piles_18 ⟨by decide, by decide⟩) rfl rfl (fun ad9 ow Z9 v9 H locs hq hd => ?_)
  obtain ⟨b18_a15, rfl, rfl, rfl⟩ := hq
  have hd := Dy.normC (A' := [(2, a2), (10, a10), (11, b18_a11), (12, a12), (13, b18_a13), (14, a14), (15, b18_a15)]) (L' := [(2, rfA (gP G) 5 (va_up (va_up (fun _ => none) 0 (some a10)) 1 (some a12))), (10, .inr (7, [.ref b18_a11, .int 0])), (11, rfA (gK G) 40 (fun _ => none)), (12, .inr (7, [.ref b18_a13, .int 0])), (13, rfA (gK G) 40 (fun _ => none)), (14, .inr (7, [.ref b18_a15, .int 0])), (15, rfA (gK G) 40 (fun _ => none))]) hd rfl rfl rfl rfl
  refine zaastP (Z' := (sr (srs Z [(2, rfA (gP G) 5 (va_up (va_up (fun _ => none) 0 (some a10)) 1 (some a12))), (10, .inr (7, [.ref b18_a11, .int 0])), (11, rfA (gK G) 40 (fun _ => none)), (12, .inr (7, [.ref b18_a13, .int 0])), (13, rfA (gK G) 40 (fun _ => none)), (14, .inr (7, [.ref b18_a15, .int 0])), (15, rfA (gK G) 40 (fun _ => none))]) 2 (some (rfA (gP G) 5 (va_up (va_up (va_up (fun _ => none) 0 (some a10)) 1 (some a12)) 2 (some a14)))))) (ad := (ads ad [(2, a2), (10, a10), (11, b18_a11), (12, a12), (13, b18_a13), (14, a14), (15, b18_a15)])) (o := 13) (i := 2) (o2 := 13) (i2 := 14) (f := va_up (va_up (fun _ => none) 0 (some a10)) 1 (some a12)) hC hd (e_raw (show 2 < xn Z 0 13 by omega) rfl) (e_raw (ad := (ads ad [(2, a2), (10, a10), (11, b18_a11), (12, a12), (13, b18_a13), (14, a14), (15, b18_a15)])) (Z := (srs Z [(2, rfA (gP G) 5 (va_up (va_up (fun _ => none) 0 (some a10)) 1 (some a12))), (10, .inr (7, [.ref b18_a11, .int 0])), (11, rfA (gK G) 40 (fun _ => none)), (12, .inr (7, [.ref b18_a13, .int 0])), (13, rfA (gK G) 40 (fun _ => none)), (14, .inr (7, [.ref b18_a15, .int 0])), (15, rfA (gK G) 40 (fun _ => none))])) (e := .inr (7, [.ref b18_a15, .int 0])) (show 14 < xn Z 0 13 by omega) rfl) (zinL (by decide)) (u_raw (show 2 < xn Z 0 13 by omega)) d_KG_piles_21 (fun H locs hd => ?_)
  have hd := Dy.norm0 (L' := [(2, rfA (gP G) 5 (va_up (va_up (va_up (fun _ => none) 0 (some a10)) 1 (some a12)) 2 (some a14))), (10, .inr (7, [.ref b18_a11, .int 0])), (11, rfA (gK G) 40 (fun _ => none)), (12, .inr (7, [.ref b18_a13, .int 0])), (13, rfA (gK G) 40 (fun _ => none)), (14, .inr (7, [.ref b18_a15, .int 0])), (15, rfA (gK G) 40 (fun _ => none))]) hd rfl
  refine lv_iinc (v := 3) (lv' := [(1, .int 3), (0, .ref a2)]) hx hb d_KG_piles_22 hl (k := 0) rfl (by decide) (by decide) rfl (fun ls hl => ?_)
  refine lv_goto (tgt := 7) hx hb d_KG_piles_25 (by decide) ?_
  refine lv_iload_n hx hb d_KG_piles_7 rfl (lv_at hl 0 rfl) ?_
  refine lv_iconst (v := 4) hx hb d_KG_piles_8 (by decide) ?_
  refine lv_icmp_gt (tgt := 28) hx hb d_KG_piles_9 (by decide) (fun c => absurd c (by decide)) (fun _ => ?_)
  refine lv_aload_n hx hb d_KG_piles_12 rfl (lv_at hl 1 rfl) ?_
  refine lv_iload_n hx hb d_KG_piles_13 rfl (lv_at hl 0 rfl) ?_
  refine znew (ci := 7) (ad := (ads ad [(2, a2), (10, a10), (11, b18_a11), (12, a12), (13, b18_a13), (14, a14), (15, b18_a15)])) (rest := [.int 3, .ref a2]) (fs := [.null, .int 0]) hC hd rfl i_Pile t_Pile t_Pile_ok q_62 q_64 q_5 df_Pile 16 (show 16 < xn Z 0 13 by omega) (Nat.le_of_ble_eq_true rfl) (Nat.le_of_ble_eq_true rfl) d_KG_piles_14 (fun a16 ow H hd => ?_)
  have hd := Dy.norm (A' := [(2, a2), (10, a10), (11, b18_a11), (12, a12), (13, b18_a13), (14, a14), (15, b18_a15), (16, a16)]) (L' := [(2, rfA (gP G) 5 (va_up (va_up (va_up (fun _ => none) 0 (some a10)) 1 (some a12)) 2 (some a14))), (10, .inr (7, [.ref b18_a11, .int 0])), (11, rfA (gK G) 40 (fun _ => none)), (12, .inr (7, [.ref b18_a13, .int 0])), (13, rfA (gK G) 40 (fun _ => none)), (14, .inr (7, [.ref b18_a15, .int 0])), (15, rfA (gK G) 40 (fun _ => none)), (16, .inr (7, [.null, .int 0]))]) hd rfl rfl
  refine lv_dup hx hb d_KG_piles_17 rfl ?_
  refine zbackg hd (zrunIN (host := "KeyGraph") (n := 0) (rest := [.ref a16, .int 3, .ref a2]) hC hd (c_Pile_init_16 l G (ads ad [(2, a2), (10, a10), (11, b18_a11), (12, a12), (13, b18_a13), (14, a14), (15, b18_a15), (16, a16)]) ow (srs Z [(2, rfA (gP G) 5 (va_up (va_up (va_up (fun _ => none) 0 (some a10)) 1 (some a12)) 2 (some a14))), (10, .inr (7, [.ref b18_a11, .int 0])), (11, rfA (gK G) 40 (fun _ => none)), (12, .inr (7, [.ref b18_a13, .int 0])), (13, rfA (gK G) 40 (fun _ => none)), (14, .inr (7, [.ref b18_a15, .int 0])), (15, rfA (gK G) 40 (fun _ => none)), (16, .inr (7, [.null, .int 0]))]) (show 50 ≤ xn Z 0 13 from h13) rfl) z_65 q_66 q_5 q_67 rfl rfl rfl rfl ⟨by decide, by decide, by decide +kernel⟩ ⟨by decide, by decide⟩ rfl hl.1 (Nat.le_of_ble_eq_true rfl) d_KG_piles_18 ⟨by decide, by decide⟩) rfl rfl (fun ad9 ow Z9 v9 H locs hq hd => ?_)
  obtain ⟨b18_a17, rfl, rfl, rfl⟩ := hq
  have hd := Dy.normC (A' := [(2, a2), (10, a10), (11, b18_a11), (12, a12), (13, b18_a13), (14, a14), (15, b18_a15), (16, a16), (17, b18_a17)]) (L' := [(2, rfA (gP G) 5 (va_up (va_up (va_up (fun _ => none) 0 (some a10)) 1 (some a12)) 2 (some a14))), (10, .inr (7, [.ref b18_a11, .int 0])), (11, rfA (gK G) 40 (fun _ => none)), (12, .inr (7, [.ref b18_a13, .int 0])), (13, rfA (gK G) 40 (fun _ => none)), (14, .inr (7, [.ref b18_a15, .int 0])), (15, rfA (gK G) 40 (fun _ => none)), (16, .inr (7, [.ref b18_a17, .int 0])), (17, rfA (gK G) 40 (fun _ => none))]) hd rfl rfl rfl rfl
  refine zaastP (Z' := (sr (srs Z [(2, rfA (gP G) 5 (va_up (va_up (va_up (fun _ => none) 0 (some a10)) 1 (some a12)) 2 (some a14))), (10, .inr (7, [.ref b18_a11, .int 0])), (11, rfA (gK G) 40 (fun _ => none)), (12, .inr (7, [.ref b18_a13, .int 0])), (13, rfA (gK G) 40 (fun _ => none)), (14, .inr (7, [.ref b18_a15, .int 0])), (15, rfA (gK G) 40 (fun _ => none)), (16, .inr (7, [.ref b18_a17, .int 0])), (17, rfA (gK G) 40 (fun _ => none))]) 2 (some (rfA (gP G) 5 (va_up (va_up (va_up (va_up (fun _ => none) 0 (some a10)) 1 (some a12)) 2 (some a14)) 3 (some a16)))))) (ad := (ads ad [(2, a2), (10, a10), (11, b18_a11), (12, a12), (13, b18_a13), (14, a14), (15, b18_a15), (16, a16), (17, b18_a17)])) (o := 13) (i := 2) (o2 := 13) (i2 := 16) (f := va_up (va_up (va_up (fun _ => none) 0 (some a10)) 1 (some a12)) 2 (some a14)) hC hd (e_raw (show 2 < xn Z 0 13 by omega) rfl) (e_raw (ad := (ads ad [(2, a2), (10, a10), (11, b18_a11), (12, a12), (13, b18_a13), (14, a14), (15, b18_a15), (16, a16), (17, b18_a17)])) (Z := (srs Z [(2, rfA (gP G) 5 (va_up (va_up (va_up (fun _ => none) 0 (some a10)) 1 (some a12)) 2 (some a14))), (10, .inr (7, [.ref b18_a11, .int 0])), (11, rfA (gK G) 40 (fun _ => none)), (12, .inr (7, [.ref b18_a13, .int 0])), (13, rfA (gK G) 40 (fun _ => none)), (14, .inr (7, [.ref b18_a15, .int 0])), (15, rfA (gK G) 40 (fun _ => none)), (16, .inr (7, [.ref b18_a17, .int 0])), (17, rfA (gK G) 40 (fun _ => none))])) (e := .inr (7, [.ref b18_a17, .int 0])) (show 16 < xn Z 0 13 by omega) rfl) (zinL (by decide)) (u_raw (show 2 < xn Z 0 13 by omega)) d_KG_piles_21 (fun H locs hd => ?_)
  have hd := Dy.norm0 (L' := [(2, rfA (gP G) 5 (va_up (va_up (va_up (va_up (fun _ => none) 0 (some a10)) 1 (some a12)) 2 (some a14)) 3 (some a16))), (10, .inr (7, [.ref b18_a11, .int 0])), (11, rfA (gK G) 40 (fun _ => none)), (12, .inr (7, [.ref b18_a13, .int 0])), (13, rfA (gK G) 40 (fun _ => none)), (14, .inr (7, [.ref b18_a15, .int 0])), (15, rfA (gK G) 40 (fun _ => none)), (16, .inr (7, [.ref b18_a17, .int 0])), (17, rfA (gK G) 40 (fun _ => none))]) hd rfl
  refine lv_iinc (v := 4) (lv' := [(1, .int 4), (0, .ref a2)]) hx hb d_KG_piles_22 hl (k := 0) rfl (by decide) (by decide) rfl (fun ls hl => ?_)
  refine lv_goto (tgt := 7) hx hb d_KG_piles_25 (by decide) ?_
  refine lv_iload_n hx hb d_KG_piles_7 rfl (lv_at hl 0 rfl) ?_
  refine lv_iconst (v := 4) hx hb d_KG_piles_8 (by decide) ?_
  refine lv_icmp_gt (tgt := 28) hx hb d_KG_piles_9 (by decide) (fun c => absurd c (by decide)) (fun _ => ?_)
  refine lv_aload_n hx hb d_KG_piles_12 rfl (lv_at hl 1 rfl) ?_
  refine lv_iload_n hx hb d_KG_piles_13 rfl (lv_at hl 0 rfl) ?_
  refine znew (ci := 7) (ad := (ads ad [(2, a2), (10, a10), (11, b18_a11), (12, a12), (13, b18_a13), (14, a14), (15, b18_a15), (16, a16), (17, b18_a17)])) (rest := [.int 4, .ref a2]) (fs := [.null, .int 0]) hC hd rfl i_Pile t_Pile t_Pile_ok q_62 q_64 q_5 df_Pile 18 (show 18 < xn Z 0 13 by omega) (Nat.le_of_ble_eq_true rfl) (Nat.le_of_ble_eq_true rfl) d_KG_piles_14 (fun a18 ow H hd => ?_)
  have hd := Dy.norm (A' := [(2, a2), (10, a10), (11, b18_a11), (12, a12), (13, b18_a13), (14, a14), (15, b18_a15), (16, a16), (17, b18_a17), (18, a18)]) (L' := [(2, rfA (gP G) 5 (va_up (va_up (va_up (va_up (fun _ => none) 0 (some a10)) 1 (some a12)) 2 (some a14)) 3 (some a16))), (10, .inr (7, [.ref b18_a11, .int 0])), (11, rfA (gK G) 40 (fun _ => none)), (12, .inr (7, [.ref b18_a13, .int 0])), (13, rfA (gK G) 40 (fun _ => none)), (14, .inr (7, [.ref b18_a15, .int 0])), (15, rfA (gK G) 40 (fun _ => none)), (16, .inr (7, [.ref b18_a17, .int 0])), (17, rfA (gK G) 40 (fun _ => none)), (18, .inr (7, [.null, .int 0]))]) hd rfl rfl
  refine lv_dup hx hb d_KG_piles_17 rfl ?_
  refine zbackg hd (zrunIN (host := "KeyGraph") (n := 0) (rest := [.ref a18, .int 4, .ref a2]) hC hd (c_Pile_init_18 l G (ads ad [(2, a2), (10, a10), (11, b18_a11), (12, a12), (13, b18_a13), (14, a14), (15, b18_a15), (16, a16), (17, b18_a17), (18, a18)]) ow (srs Z [(2, rfA (gP G) 5 (va_up (va_up (va_up (va_up (fun _ => none) 0 (some a10)) 1 (some a12)) 2 (some a14)) 3 (some a16))), (10, .inr (7, [.ref b18_a11, .int 0])), (11, rfA (gK G) 40 (fun _ => none)), (12, .inr (7, [.ref b18_a13, .int 0])), (13, rfA (gK G) 40 (fun _ => none)), (14, .inr (7, [.ref b18_a15, .int 0])), (15, rfA (gK G) 40 (fun _ => none)), (16, .inr (7, [.ref b18_a17, .int 0])), (17, rfA (gK G) 40 (fun _ => none)), (18, .inr (7, [.null, .int 0]))]) (show 50 ≤ xn Z 0 13 from h13) rfl) z_65 q_66 q_5 q_67 rfl rfl rfl rfl ⟨by decide, by decide, by decide +kernel⟩ ⟨by decide, by decide⟩ rfl hl.1 (Nat.le_of_ble_eq_true rfl) d_KG_piles_18 ⟨by decide, by decide⟩) rfl rfl (fun ad9 ow Z9 v9 H locs hq hd => ?_)
  obtain ⟨b18_a19, rfl, rfl, rfl⟩ := hq
  have hd := Dy.normC (A' := [(2, a2), (10, a10), (11, b18_a11), (12, a12), (13, b18_a13), (14, a14), (15, b18_a15), (16, a16), (17, b18_a17), (18, a18), (19, b18_a19)]) (L' := [(2, rfA (gP G) 5 (va_up (va_up (va_up (va_up (fun _ => none) 0 (some a10)) 1 (some a12)) 2 (some a14)) 3 (some a16))), (10, .inr (7, [.ref b18_a11, .int 0])), (11, rfA (gK G) 40 (fun _ => none)), (12, .inr (7, [.ref b18_a13, .int 0])), (13, rfA (gK G) 40 (fun _ => none)), (14, .inr (7, [.ref b18_a15, .int 0])), (15, rfA (gK G) 40 (fun _ => none)), (16, .inr (7, [.ref b18_a17, .int 0])), (17, rfA (gK G) 40 (fun _ => none)), (18, .inr (7, [.ref b18_a19, .int 0])), (19, rfA (gK G) 40 (fun _ => none))]) hd rfl rfl rfl rfl
  refine zaastP (Z' := (sr (srs Z [(2, rfA (gP G) 5 (va_up (va_up (va_up (va_up (fun _ => none) 0 (some a10)) 1 (some a12)) 2 (some a14)) 3 (some a16))), (10, .inr (7, [.ref b18_a11, .int 0])), (11, rfA (gK G) 40 (fun _ => none)), (12, .inr (7, [.ref b18_a13, .int 0])), (13, rfA (gK G) 40 (fun _ => none)), (14, .inr (7, [.ref b18_a15, .int 0])), (15, rfA (gK G) 40 (fun _ => none)), (16, .inr (7, [.ref b18_a17, .int 0])), (17, rfA (gK G) 40 (fun _ => none)), (18, .inr (7, [.ref b18_a19, .int 0])), (19, rfA (gK G) 40 (fun _ => none))]) 2 (some (rfA (gP G) 5 (va_up (va_up (va_up (va_up (va_up (fun _ => none) 0 (some a10)) 1 (some a12)) 2 (some a14)) 3 (some a16)) 4 (some a18)))))) (ad := (ads ad [(2, a2), (10, a10), (11, b18_a11), (12, a12), (13, b18_a13), (14, a14), (15, b18_a15), (16, a16), (17, b18_a17), (18, a18), (19, b18_a19)])) (o := 13) (i := 2) (o2 := 13) (i2 := 18) (f := va_up (va_up (va_up (va_up (fun _ => none) 0 (some a10)) 1 (some a12)) 2 (some a14)) 3 (some a16)) hC hd (e_raw (show 2 < xn Z 0 13 by omega) rfl) (e_raw (ad := (ads ad [(2, a2), (10, a10), (11, b18_a11), (12, a12), (13, b18_a13), (14, a14), (15, b18_a15), (16, a16), (17, b18_a17), (18, a18), (19, b18_a19)])) (Z := (srs Z [(2, rfA (gP G) 5 (va_up (va_up (va_up (va_up (fun _ => none) 0 (some a10)) 1 (some a12)) 2 (some a14)) 3 (some a16))), (10, .inr (7, [.ref b18_a11, .int 0])), (11, rfA (gK G) 40 (fun _ => none)), (12, .inr (7, [.ref b18_a13, .int 0])), (13, rfA (gK G) 40 (fun _ => none)), (14, .inr (7, [.ref b18_a15, .int 0])), (15, rfA (gK G) 40 (fun _ => none)), (16, .inr (7, [.ref b18_a17, .int 0])), (17, rfA (gK G) 40 (fun _ => none)), (18, .inr (7, [.ref b18_a19, .int 0])), (19, rfA (gK G) 40 (fun _ => none))])) (e := .inr (7, [.ref b18_a19, .int 0])) (show 18 < xn Z 0 13 by omega) rfl) (zinL (by decide)) (u_raw (show 2 < xn Z 0 13 by omega)) d_KG_piles_21 (fun H locs hd => ?_)
  have hd := Dy.norm0 (L' := [(2, rfA (gP G) 5 (va_up (va_up (va_up (va_up (va_up (fun _ => none) 0 (some a10)) 1 (some a12)) 2 (some a14)) 3 (some a16)) 4 (some a18))), (10, .inr (7, [.ref b18_a11, .int 0])), (11, rfA (gK G) 40 (fun _ => none)), (12, .inr (7, [.ref b18_a13, .int 0])), (13, rfA (gK G) 40 (fun _ => none)), (14, .inr (7, [.ref b18_a15, .int 0])), (15, rfA (gK G) 40 (fun _ => none)), (16, .inr (7, [.ref b18_a17, .int 0])), (17, rfA (gK G) 40 (fun _ => none)), (18, .inr (7, [.ref b18_a19, .int 0])), (19, rfA (gK G) 40 (fun _ => none))]) hd rfl
  refine lv_iinc (v := 5) (lv' := [(1, .int 5), (0, .ref a2)]) hx hb d_KG_piles_22 hl (k := 0) rfl (by decide) (by decide) rfl (fun ls hl => ?_)
  refine lv_goto (tgt := 7) hx hb d_KG_piles_25 (by decide) ?_
  refine lv_iload_n hx hb d_KG_piles_7 rfl (lv_at hl 0 rfl) ?_
  refine lv_iconst (v := 4) hx hb d_KG_piles_8 (by decide) ?_
  refine lv_icmp_gt (tgt := 28) hx hb d_KG_piles_9 (by decide) (fun _ => ?_) (fun c => absurd c (by decide))
  refine lv_aload_n hx hb d_KG_piles_28 rfl (lv_at hl 1 rfl) ?_
  exact zga hC hd hr (Or.inr ⟨_, rfl⟩) hlk d_KG_piles_29 ⟨a2, a10, b18_a11, a12, b18_a13, a14, b18_a15, a16, b18_a17, a18, b18_a19, rfl, rfl, rfl⟩ (Nat.le_of_ble_eq_true rfl) (Nat.le_of_ble_eq_true rfl)
set_option maxHeartbeats 4000000 in
theorem c_KG_init (l : Launch) (G : Gt) (ad : Nat → Nat → Nat) (ow : Nat → Nat × Nat) (Z : Zt) (h13 : 50 ≤ xn Z 0 13) (he : xr Z 0 = some (.inr (0, [.null, .null, .null, .int 0, .null]))) : Met l y_KG_init w_KG_init ({ frames := 4, cells := 14, slots := 261, locals := 80 }) (zPc G ad ow Z [.ref (ad 13 0)]) (Qg G (fun ad9 _ Z9 v9 => ∃ a1, ∃ b16_a2, ∃ b16_a10, ∃ b16_b18_a11, ∃ b16_a12, ∃ b16_b18_a13, ∃ b16_a14, ∃ b16_b18_a15, ∃ b16_a16, ∃ b16_b18_a17, ∃ b16_a18, ∃ b16_b18_a19, ∃ a3, ∃ a4, (ads ad [(1, a1), (2, b16_a2), (10, b16_a10), (11, b16_b18_a11), (12, b16_a12), (13, b16_b18_a13), (14, b16_a14), (15, b16_b18_a15), (16, b16_a16), (17, b16_b18_a17), (18, b16_a18), (19, b16_b18_a19), (3, a3), (4, a4)]) = ad9 ∧ (srs Z [(1, .inr (8, [.int 0, .ref (ge G), .int 0])), (0, .inr (0, [.ref a1, .ref b16_a2, .ref a3, .int 0, .ref a4])), (2, rfA (gP G) 5 (va_up (va_up (va_up (va_up (va_up (fun _ => none) 0 (some b16_a10)) 1 (some b16_a12)) 2 (some b16_a14)) 3 (some b16_a16)) 4 (some b16_a18))), (10, .inr (7, [.ref b16_b18_a11, .int 0])), (11, rfA (gK G) 40 (fun _ => none)), (12, .inr (7, [.ref b16_b18_a13, .int 0])), (13, rfA (gK G) 40 (fun _ => none)), (14, .inr (7, [.ref b16_b18_a15, .int 0])), (15, rfA (gK G) 40 (fun _ => none)), (16, .inr (7, [.ref b16_b18_a17, .int 0])), (17, rfA (gK G) 40 (fun _ => none)), (18, .inr (7, [.ref b16_b18_a19, .int 0])), (19, rfA (gK G) 40 (fun _ => none)), (3, .inr (8, [.int 0, .ref (ge G), .int 0])), (4, inA (gZ G) 40 (fun _ => 0))]) = Z9 ∧ none = v9)) 14 261 (zA G) := by
  refine zopen (cc := b_KG_init) (maxL := 1) (ret := none) (by decide) rfl (Nat.le_of_ble_eq_true rfl) ?_
  intro p e s m below meth c ls hC hr hlk hnm hd hl
  have hC : Cx G p c m s _ "KeyGraph" b_KG_init 1 := hC
  have hl : lv_has ls 1 [(0, .ref (ad 13 0))] := hl
  have hx := hC.1
  have hb := hC.2.1
  have hd : Dy G (ads ad []) ow (srs Z []) s s.heap [] := by rw [ads_nil, srs_nil]; exact hd
  obtain ⟨H, hH⟩ : ∃ q, q = s.heap := ⟨_, rfl⟩
  obtain ⟨locs, hlocs⟩ : ∃ q : List Loc, q = [] := ⟨_, rfl⟩
  rw [← hH, ← hlocs] at hd
  rw [← hH, ← hlocs]
  refine lv_aload_n hx hb d_KG_init_0 rfl (lv_at hl 0 rfl) ?_
  refine zobj hC hl.1 q_30 q_31 q_32 (Nat.le_of_ble_eq_true rfl) (by decide) d_KG_init_1 ?_
  refine lv_aload_n hx hb d_KG_init_4 rfl (lv_at hl 0 rfl) ?_
  refine znew (ci := 8) (ad := (ads ad [])) (rest := [.ref (ad 13 0)]) (fs := [.int 0, .null, .int 0]) hC hd rfl i_AL t_AL t_AL_ok q_33 q_34 q_4 df_AL 1 (show 1 < xn Z 0 13 by omega) (Nat.le_of_ble_eq_true rfl) (Nat.le_of_ble_eq_true rfl) d_KG_init_5 (fun a1 ow H hd => ?_)
  have hd := Dy.norm (A' := [(1, a1)]) (L' := [(1, .inr (8, [.int 0, .null, .int 0]))]) hd rfl rfl
  refine lv_dup hx hb d_KG_init_8 rfl ?_
  refine zbackg hd (zrunI (n := 0) (rest := [.ref a1, .ref (ad 13 0)]) hC hd (c_AL_init_1 l G (ads ad [(1, a1)]) ow (srs Z [(1, .inr (8, [.int 0, .null, .int 0]))]) (show 50 ≤ xn Z 0 13 from h13) rfl) q_35 q_36 q_4 q_37 rfl rfl rfl rfl ⟨by decide, by decide, by decide +kernel⟩ ⟨by decide, by decide⟩ rfl hl.1 (Nat.le_of_ble_eq_true rfl) d_KG_init_9 ⟨by decide, by decide⟩) rfl rfl (fun ad9 ow Z9 v9 H locs hq hd => ?_)
  obtain ⟨rfl, rfl, rfl⟩ := hq
  have hd := Dy.normC (A' := [(1, a1)]) (L' := [(1, .inr (8, [.int 0, .ref (ge G), .int 0]))]) hd rfl rfl rfl rfl
  refine zputF (Z' := (sr (srs Z [(1, .inr (8, [.int 0, .ref (ge G), .int 0]))]) 0 (some (.inr (0, [.ref a1, .null, .null, .int 0, .null]))))) (v := .ref a1) (ad := (ads ad [(1, a1)])) (o := 13) (i := 0) hC hnm hd (e_raw (ad := (ads ad [(1, a1)])) (Z := (srs Z [(1, .inr (8, [.int 0, .ref (ge G), .int 0]))])) (e := .inr (0, [.null, .null, .null, .int 0, .null])) (show 0 < xn Z 0 13 by omega) he) rfl i_KG t_KG t_KG_ok n_KG 0 (by decide) q_80 rfl rfl rfl rfl (Nat.le_of_ble_eq_true rfl) (u_raw (show 0 < xn Z 0 13 by omega)) d_KG_init_12 (fun H locs hd => ?_)
  have hd := Dy.norm0 (L' := [(1, .inr (8, [.int 0, .ref (ge G), .int 0])), (0, .inr (0, [.ref a1, .null, .null, .int 0, .null]))]) hd rfl
  refine lv_aload_n hx hb d_KG_init_15 rfl (lv_at hl 0 rfl) ?_
  refine zbackg hd (zrunS (n := 0) (rest := [.ref (ad 13 0)]) hC hd (c_KG_piles l G (ads ad [(1, a1)]) ow (srs Z [(1, .inr (8, [.int 0, .ref (ge G), .int 0])), (0, .inr (0, [.ref a1, .null, .null, .int 0, .null]))]) (show 50 ≤ xn Z 0 13 from h13)) q_59 q_60 q_1 q_61 rfl rfl rfl ⟨by decide, by decide, by decide +kernel⟩ ⟨by decide, by decide⟩ rfl hl.1 (Nat.le_of_ble_eq_true rfl) d_KG_init_16 ⟨by decide, by decide⟩) rfl rfl (fun ad9 ow Z9 v9 H locs hq hd => ?_)
  obtain ⟨b16_a2, b16_a10, b16_b18_a11, b16_a12, b16_b18_a13, b16_a14, b16_b18_a15, b16_a16, b16_b18_a17, b16_a18, b16_b18_a19, rfl, rfl, rfl⟩ := hq
  have hd := Dy.normC (A' := [(1, a1), (2, b16_a2), (10, b16_a10), (11, b16_b18_a11), (12, b16_a12), (13, b16_b18_a13), (14, b16_a14), (15, b16_b18_a15), (16, b16_a16), (17, b16_b18_a17), (18, b16_a18), (19, b16_b18_a19)]) (L' := [(1, .inr (8, [.int 0, .ref (ge G), .int 0])), (0, .inr (0, [.ref a1, .null, .null, .int 0, .null])), (2, rfA (gP G) 5 (va_up (va_up (va_up (va_up (va_up (fun _ => none) 0 (some b16_a10)) 1 (some b16_a12)) 2 (some b16_a14)) 3 (some b16_a16)) 4 (some b16_a18))), (10, .inr (7, [.ref b16_b18_a11, .int 0])), (11, rfA (gK G) 40 (fun _ => none)), (12, .inr (7, [.ref b16_b18_a13, .int 0])), (13, rfA (gK G) 40 (fun _ => none)), (14, .inr (7, [.ref b16_b18_a15, .int 0])), (15, rfA (gK G) 40 (fun _ => none)), (16, .inr (7, [.ref b16_b18_a17, .int 0])), (17, rfA (gK G) 40 (fun _ => none)), (18, .inr (7, [.ref b16_b18_a19, .int 0])), (19, rfA (gK G) 40 (fun _ => none))]) hd rfl rfl rfl rfl
  change W _ _ _ _ _ _ _ _ _ _ _ _ _ _ _ (F0 m 19 ls [.ref b16_a2, .ref (ad 13 0)])
  refine zputF (Z' := (sr (srs Z [(1, .inr (8, [.int 0, .ref (ge G), .int 0])), (0, .inr (0, [.ref a1, .null, .null, .int 0, .null])), (2, rfA (gP G) 5 (va_up (va_up (va_up (va_up (va_up (fun _ => none) 0 (some b16_a10)) 1 (some b16_a12)) 2 (some b16_a14)) 3 (some b16_a16)) 4 (some b16_a18))), (10, .inr (7, [.ref b16_b18_a11, .int 0])), (11, rfA (gK G) 40 (fun _ => none)), (12, .inr (7, [.ref b16_b18_a13, .int 0])), (13, rfA (gK G) 40 (fun _ => none)), (14, .inr (7, [.ref b16_b18_a15, .int 0])), (15, rfA (gK G) 40 (fun _ => none)), (16, .inr (7, [.ref b16_b18_a17, .int 0])), (17, rfA (gK G) 40 (fun _ => none)), (18, .inr (7, [.ref b16_b18_a19, .int 0])), (19, rfA (gK G) 40 (fun _ => none))]) 0 (some (.inr (0, [.ref a1, .ref b16_a2, .null, .int 0, .null]))))) (v := .ref b16_a2) (ad := (ads ad [(1, a1), (2, b16_a2), (10, b16_a10), (11, b16_b18_a11), (12, b16_a12), (13, b16_b18_a13), (14, b16_a14), (15, b16_b18_a15), (16, b16_a16), (17, b16_b18_a17), (18, b16_a18), (19, b16_b18_a19)])) (o := 13) (i := 0) hC hnm hd (e_raw (ad := (ads ad [(1, a1), (2, b16_a2), (10, b16_a10), (11, b16_b18_a11), (12, b16_a12), (13, b16_b18_a13), (14, b16_a14), (15, b16_b18_a15), (16, b16_a16), (17, b16_b18_a17), (18, b16_a18), (19, b16_b18_a19)])) (Z := (srs Z [(1, .inr (8, [.int 0, .ref (ge G), .int 0])), (0, .inr (0, [.ref a1, .null, .null, .int 0, .null])), (2, rfA (gP G) 5 (va_up (va_up (va_up (va_up (va_up (fun _ => none) 0 (some b16_a10)) 1 (some b16_a12)) 2 (some b16_a14)) 3 (some b16_a16)) 4 (some b16_a18))), (10, .inr (7, [.ref b16_b18_a11, .int 0])), (11, rfA (gK G) 40 (fun _ => none)), (12, .inr (7, [.ref b16_b18_a13, .int 0])), (13, rfA (gK G) 40 (fun _ => none)), (14, .inr (7, [.ref b16_b18_a15, .int 0])), (15, rfA (gK G) 40 (fun _ => none)), (16, .inr (7, [.ref b16_b18_a17, .int 0])), (17, rfA (gK G) 40 (fun _ => none)), (18, .inr (7, [.ref b16_b18_a19, .int 0])), (19, rfA (gK G) 40 (fun _ => none))])) (e := .inr (0, [.ref a1, .null, .null, .int 0, .null])) (show 0 < xn Z 0 13 by omega) rfl) rfl i_KG t_KG t_KG_ok n_KG 1 (by decide) q_81 rfl rfl rfl rfl (Nat.le_of_ble_eq_true rfl) (u_raw (show 0 < xn Z 0 13 by omega)) d_KG_init_19 (fun H locs hd => ?_)
  have hd := Dy.norm0 (L' := [(1, .inr (8, [.int 0, .ref (ge G), .int 0])), (0, .inr (0, [.ref a1, .ref b16_a2, .null, .int 0, .null])), (2, rfA (gP G) 5 (va_up (va_up (va_up (va_up (va_up (fun _ => none) 0 (some b16_a10)) 1 (some b16_a12)) 2 (some b16_a14)) 3 (some b16_a16)) 4 (some b16_a18))), (10, .inr (7, [.ref b16_b18_a11, .int 0])), (11, rfA (gK G) 40 (fun _ => none)), (12, .inr (7, [.ref b16_b18_a13, .int 0])), (13, rfA (gK G) 40 (fun _ => none)), (14, .inr (7, [.ref b16_b18_a15, .int 0])), (15, rfA (gK G) 40 (fun _ => none)), (16, .inr (7, [.ref b16_b18_a17, .int 0])), (17, rfA (gK G) 40 (fun _ => none)), (18, .inr (7, [.ref b16_b18_a19, .int 0])), (19, rfA (gK G) 40 (fun _ => none))]) hd rfl
  refine lv_aload_n hx hb d_KG_init_22 rfl (lv_at hl 0 rfl) ?_
  refine znew (ci := 8) (ad := (ads ad [(1, a1), (2, b16_a2), (10, b16_a10), (11, b16_b18_a11), (12, b16_a12), (13, b16_b18_a13), (14, b16_a14), (15, b16_b18_a15), (16, b16_a16), (17, b16_b18_a17), (18, b16_a18), (19, b16_b18_a19)])) (rest := [.ref (ad 13 0)]) (fs := [.int 0, .null, .int 0]) hC hd rfl i_AL t_AL t_AL_ok q_33 q_34 q_4 df_AL 3 (show 3 < xn Z 0 13 by omega) (Nat.le_of_ble_eq_true rfl) (Nat.le_of_ble_eq_true rfl) d_KG_init_23 (fun a3 ow H hd => ?_)
  have hd := Dy.norm (A' := [(1, a1), (2, b16_a2), (10, b16_a10), (11, b16_b18_a11), (12, b16_a12), (13, b16_b18_a13), (14, b16_a14), (15, b16_b18_a15), (16, b16_a16), (17, b16_b18_a17), (18, b16_a18), (19, b16_b18_a19), (3, a3)]) (L' := [(1, .inr (8, [.int 0, .ref (ge G), .int 0])), (0, .inr (0, [.ref a1, .ref b16_a2, .null, .int 0, .null])), (2, rfA (gP G) 5 (va_up (va_up (va_up (va_up (va_up (fun _ => none) 0 (some b16_a10)) 1 (some b16_a12)) 2 (some b16_a14)) 3 (some b16_a16)) 4 (some b16_a18))), (10, .inr (7, [.ref b16_b18_a11, .int 0])), (11, rfA (gK G) 40 (fun _ => none)), (12, .inr (7, [.ref b16_b18_a13, .int 0])), (13, rfA (gK G) 40 (fun _ => none)), (14, .inr (7, [.ref b16_b18_a15, .int 0])), (15, rfA (gK G) 40 (fun _ => none)), (16, .inr (7, [.ref b16_b18_a17, .int 0])), (17, rfA (gK G) 40 (fun _ => none)), (18, .inr (7, [.ref b16_b18_a19, .int 0])), (19, rfA (gK G) 40 (fun _ => none)), (3, .inr (8, [.int 0, .null, .int 0]))]) hd rfl rfl
  refine lv_dup hx hb d_KG_init_26 rfl ?_
  refine zbackg hd (zrunI (n := 0) (rest := [.ref a3, .ref (ad 13 0)]) hC hd (c_AL_init_3 l G (ads ad [(1, a1), (2, b16_a2), (10, b16_a10), (11, b16_b18_a11), (12, b16_a12), (13, b16_b18_a13), (14, b16_a14), (15, b16_b18_a15), (16, b16_a16), (17, b16_b18_a17), (18, b16_a18), (19, b16_b18_a19), (3, a3)]) ow (srs Z [(1, .inr (8, [.int 0, .ref (ge G), .int 0])), (0, .inr (0, [.ref a1, .ref b16_a2, .null, .int 0, .null])), (2, rfA (gP G) 5 (va_up (va_up (va_up (va_up (va_up (fun _ => none) 0 (some b16_a10)) 1 (some b16_a12)) 2 (some b16_a14)) 3 (some b16_a16)) 4 (some b16_a18))), (10, .inr (7, [.ref b16_b18_a11, .int 0])), (11, rfA (gK G) 40 (fun _ => none)), (12, .inr (7, [.ref b16_b18_a13, .int 0])), (13, rfA (gK G) 40 (fun _ => none)), (14, .inr (7, [.ref b16_b18_a15, .int 0])), (15, rfA (gK G) 40 (fun _ => none)), (16, .inr (7, [.ref b16_b18_a17, .int 0])), (17, rfA (gK G) 40 (fun _ => none)), (18, .inr (7, [.ref b16_b18_a19, .int 0])), (19, rfA (gK G) 40 (fun _ => none)), (3, .inr (8, [.int 0, .null, .int 0]))]) (show 50 ≤ xn Z 0 13 from h13) rfl) q_35 q_36 q_4 q_37 rfl rfl rfl rfl ⟨by decide, by decide, by decide +kernel⟩ ⟨by decide, by decide⟩ rfl hl.1 (Nat.le_of_ble_eq_true rfl) d_KG_init_27 ⟨by decide, by decide⟩) rfl rfl (fun ad9 ow Z9 v9 H locs hq hd => ?_)
  obtain ⟨rfl, rfl, rfl⟩ := hq
  have hd := Dy.normC (A' := [(1, a1), (2, b16_a2), (10, b16_a10), (11, b16_b18_a11), (12, b16_a12), (13, b16_b18_a13), (14, b16_a14), (15, b16_b18_a15), (16, b16_a16), (17, b16_b18_a17), (18, b16_a18), (19, b16_b18_a19), (3, a3)]) (L' := [(1, .inr (8, [.int 0, .ref (ge G), .int 0])), (0, .inr (0, [.ref a1, .ref b16_a2, .null, .int 0, .null])), (2, rfA (gP G) 5 (va_up (va_up (va_up (va_up (va_up (fun _ => none) 0 (some b16_a10)) 1 (some b16_a12)) 2 (some b16_a14)) 3 (some b16_a16)) 4 (some b16_a18))), (10, .inr (7, [.ref b16_b18_a11, .int 0])), (11, rfA (gK G) 40 (fun _ => none)), (12, .inr (7, [.ref b16_b18_a13, .int 0])), (13, rfA (gK G) 40 (fun _ => none)), (14, .inr (7, [.ref b16_b18_a15, .int 0])), (15, rfA (gK G) 40 (fun _ => none)), (16, .inr (7, [.ref b16_b18_a17, .int 0])), (17, rfA (gK G) 40 (fun _ => none)), (18, .inr (7, [.ref b16_b18_a19, .int 0])), (19, rfA (gK G) 40 (fun _ => none)), (3, .inr (8, [.int 0, .ref (ge G), .int 0]))]) hd rfl rfl rfl rfl
  refine zputF (Z' := (sr (srs Z [(1, .inr (8, [.int 0, .ref (ge G), .int 0])), (0, .inr (0, [.ref a1, .ref b16_a2, .null, .int 0, .null])), (2, rfA (gP G) 5 (va_up (va_up (va_up (va_up (va_up (fun _ => none) 0 (some b16_a10)) 1 (some b16_a12)) 2 (some b16_a14)) 3 (some b16_a16)) 4 (some b16_a18))), (10, .inr (7, [.ref b16_b18_a11, .int 0])), (11, rfA (gK G) 40 (fun _ => none)), (12, .inr (7, [.ref b16_b18_a13, .int 0])), (13, rfA (gK G) 40 (fun _ => none)), (14, .inr (7, [.ref b16_b18_a15, .int 0])), (15, rfA (gK G) 40 (fun _ => none)), (16, .inr (7, [.ref b16_b18_a17, .int 0])), (17, rfA (gK G) 40 (fun _ => none)), (18, .inr (7, [.ref b16_b18_a19, .int 0])), (19, rfA (gK G) 40 (fun _ => none)), (3, .inr (8, [.int 0, .ref (ge G), .int 0]))]) 0 (some (.inr (0, [.ref a1, .ref b16_a2, .ref a3, .int 0, .null]))))) (v := .ref a3) (ad := (ads ad [(1, a1), (2, b16_a2), (10, b16_a10), (11, b16_b18_a11), (12, b16_a12), (13, b16_b18_a13), (14, b16_a14), (15, b16_b18_a15), (16, b16_a16), (17, b16_b18_a17), (18, b16_a18), (19, b16_b18_a19), (3, a3)])) (o := 13) (i := 0) hC hnm hd (e_raw (ad := (ads ad [(1, a1), (2, b16_a2), (10, b16_a10), (11, b16_b18_a11), (12, b16_a12), (13, b16_b18_a13), (14, b16_a14), (15, b16_b18_a15), (16, b16_a16), (17, b16_b18_a17), (18, b16_a18), (19, b16_b18_a19), (3, a3)])) (Z := (srs Z [(1, .inr (8, [.int 0, .ref (ge G), .int 0])), (0, .inr (0, [.ref a1, .ref b16_a2, .null, .int 0, .null])), (2, rfA (gP G) 5 (va_up (va_up (va_up (va_up (va_up (fun _ => none) 0 (some b16_a10)) 1 (some b16_a12)) 2 (some b16_a14)) 3 (some b16_a16)) 4 (some b16_a18))), (10, .inr (7, [.ref b16_b18_a11, .int 0])), (11, rfA (gK G) 40 (fun _ => none)), (12, .inr (7, [.ref b16_b18_a13, .int 0])), (13, rfA (gK G) 40 (fun _ => none)), (14, .inr (7, [.ref b16_b18_a15, .int 0])), (15, rfA (gK G) 40 (fun _ => none)), (16, .inr (7, [.ref b16_b18_a17, .int 0])), (17, rfA (gK G) 40 (fun _ => none)), (18, .inr (7, [.ref b16_b18_a19, .int 0])), (19, rfA (gK G) 40 (fun _ => none)), (3, .inr (8, [.int 0, .ref (ge G), .int 0]))])) (e := .inr (0, [.ref a1, .ref b16_a2, .null, .int 0, .null])) (show 0 < xn Z 0 13 by omega) rfl) rfl i_KG t_KG t_KG_ok n_KG 2 (by decide) q_82 rfl rfl rfl rfl (Nat.le_of_ble_eq_true rfl) (u_raw (show 0 < xn Z 0 13 by omega)) d_KG_init_30 (fun H locs hd => ?_)
  have hd := Dy.norm0 (L' := [(1, .inr (8, [.int 0, .ref (ge G), .int 0])), (0, .inr (0, [.ref a1, .ref b16_a2, .ref a3, .int 0, .null])), (2, rfA (gP G) 5 (va_up (va_up (va_up (va_up (va_up (fun _ => none) 0 (some b16_a10)) 1 (some b16_a12)) 2 (some b16_a14)) 3 (some b16_a16)) 4 (some b16_a18))), (10, .inr (7, [.ref b16_b18_a11, .int 0])), (11, rfA (gK G) 40 (fun _ => none)), (12, .inr (7, [.ref b16_b18_a13, .int 0])), (13, rfA (gK G) 40 (fun _ => none)), (14, .inr (7, [.ref b16_b18_a15, .int 0])), (15, rfA (gK G) 40 (fun _ => none)), (16, .inr (7, [.ref b16_b18_a17, .int 0])), (17, rfA (gK G) 40 (fun _ => none)), (18, .inr (7, [.ref b16_b18_a19, .int 0])), (19, rfA (gK G) 40 (fun _ => none)), (3, .inr (8, [.int 0, .ref (ge G), .int 0]))]) hd rfl
  refine lv_aload_n hx hb d_KG_init_33 rfl (lv_at hl 0 rfl) ?_
  refine lv_bipush (v := 40) hx hb d_KG_init_34 (by decide) ?_
  refine znewZ (ad := (ads ad [(1, a1), (2, b16_a2), (10, b16_a10), (11, b16_b18_a11), (12, b16_a12), (13, b16_b18_a13), (14, b16_a14), (15, b16_b18_a15), (16, b16_a16), (17, b16_b18_a17), (18, b16_a18), (19, b16_b18_a19), (3, a3)])) (rest := [.ref (ad 13 0)]) hC hd 40 (by decide) (by decide) (Nat.le_of_ble_eq_true rfl) 4 (show 4 < xn Z 0 13 by omega) q_96 (Nat.le_of_ble_eq_true rfl) (Nat.le_of_ble_eq_true rfl) d_KG_init_36 (fun a4 ow H hd => ?_)
  have hd := Dy.norm (A' := [(1, a1), (2, b16_a2), (10, b16_a10), (11, b16_b18_a11), (12, b16_a12), (13, b16_b18_a13), (14, b16_a14), (15, b16_b18_a15), (16, b16_a16), (17, b16_b18_a17), (18, b16_a18), (19, b16_b18_a19), (3, a3), (4, a4)]) (L' := [(1, .inr (8, [.int 0, .ref (ge G), .int 0])), (0, .inr (0, [.ref a1, .ref b16_a2, .ref a3, .int 0, .null])), (2, rfA (gP G) 5 (va_up (va_up (va_up (va_up (va_up (fun _ => none) 0 (some b16_a10)) 1 (some b16_a12)) 2 (some b16_a14)) 3 (some b16_a16)) 4 (some b16_a18))), (10, .inr (7, [.ref b16_b18_a11, .int 0])), (11, rfA (gK G) 40 (fun _ => none)), (12, .inr (7, [.ref b16_b18_a13, .int 0])), (13, rfA (gK G) 40 (fun _ => none)), (14, .inr (7, [.ref b16_b18_a15, .int 0])), (15, rfA (gK G) 40 (fun _ => none)), (16, .inr (7, [.ref b16_b18_a17, .int 0])), (17, rfA (gK G) 40 (fun _ => none)), (18, .inr (7, [.ref b16_b18_a19, .int 0])), (19, rfA (gK G) 40 (fun _ => none)), (3, .inr (8, [.int 0, .ref (ge G), .int 0])), (4, inA (gZ G) 40 (fun _ => 0))]) hd rfl rfl
  refine zputF (Z' := (sr (srs Z [(1, .inr (8, [.int 0, .ref (ge G), .int 0])), (0, .inr (0, [.ref a1, .ref b16_a2, .ref a3, .int 0, .null])), (2, rfA (gP G) 5 (va_up (va_up (va_up (va_up (va_up (fun _ => none) 0 (some b16_a10)) 1 (some b16_a12)) 2 (some b16_a14)) 3 (some b16_a16)) 4 (some b16_a18))), (10, .inr (7, [.ref b16_b18_a11, .int 0])), (11, rfA (gK G) 40 (fun _ => none)), (12, .inr (7, [.ref b16_b18_a13, .int 0])), (13, rfA (gK G) 40 (fun _ => none)), (14, .inr (7, [.ref b16_b18_a15, .int 0])), (15, rfA (gK G) 40 (fun _ => none)), (16, .inr (7, [.ref b16_b18_a17, .int 0])), (17, rfA (gK G) 40 (fun _ => none)), (18, .inr (7, [.ref b16_b18_a19, .int 0])), (19, rfA (gK G) 40 (fun _ => none)), (3, .inr (8, [.int 0, .ref (ge G), .int 0])), (4, inA (gZ G) 40 (fun _ => 0))]) 0 (some (.inr (0, [.ref a1, .ref b16_a2, .ref a3, .int 0, .ref a4]))))) (v := .ref a4) (ad := (ads ad [(1, a1), (2, b16_a2), (10, b16_a10), (11, b16_b18_a11), (12, b16_a12), (13, b16_b18_a13), (14, b16_a14), (15, b16_b18_a15), (16, b16_a16), (17, b16_b18_a17), (18, b16_a18), (19, b16_b18_a19), (3, a3), (4, a4)])) (o := 13) (i := 0) hC hnm hd (e_raw (ad := (ads ad [(1, a1), (2, b16_a2), (10, b16_a10), (11, b16_b18_a11), (12, b16_a12), (13, b16_b18_a13), (14, b16_a14), (15, b16_b18_a15), (16, b16_a16), (17, b16_b18_a17), (18, b16_a18), (19, b16_b18_a19), (3, a3), (4, a4)])) (Z := (srs Z [(1, .inr (8, [.int 0, .ref (ge G), .int 0])), (0, .inr (0, [.ref a1, .ref b16_a2, .ref a3, .int 0, .null])), (2, rfA (gP G) 5 (va_up (va_up (va_up (va_up (va_up (fun _ => none) 0 (some b16_a10)) 1 (some b16_a12)) 2 (some b16_a14)) 3 (some b16_a16)) 4 (some b16_a18))), (10, .inr (7, [.ref b16_b18_a11, .int 0])), (11, rfA (gK G) 40 (fun _ => none)), (12, .inr (7, [.ref b16_b18_a13, .int 0])), (13, rfA (gK G) 40 (fun _ => none)), (14, .inr (7, [.ref b16_b18_a15, .int 0])), (15, rfA (gK G) 40 (fun _ => none)), (16, .inr (7, [.ref b16_b18_a17, .int 0])), (17, rfA (gK G) 40 (fun _ => none)), (18, .inr (7, [.ref b16_b18_a19, .int 0])), (19, rfA (gK G) 40 (fun _ => none)), (3, .inr (8, [.int 0, .ref (ge G), .int 0])), (4, inA (gZ G) 40 (fun _ => 0))])) (e := .inr (0, [.ref a1, .ref b16_a2, .ref a3, .int 0, .null])) (show 0 < xn Z 0 13 by omega) rfl) rfl i_KG t_KG t_KG_ok n_KG 4 (by decide) q_84 rfl rfl rfl rfl (Nat.le_of_ble_eq_true rfl) (u_raw (show 0 < xn Z 0 13 by omega)) d_KG_init_38 (fun H locs hd => ?_)
  have hd := Dy.norm0 (L' := [(1, .inr (8, [.int 0, .ref (ge G), .int 0])), (0, .inr (0, [.ref a1, .ref b16_a2, .ref a3, .int 0, .ref a4])), (2, rfA (gP G) 5 (va_up (va_up (va_up (va_up (va_up (fun _ => none) 0 (some b16_a10)) 1 (some b16_a12)) 2 (some b16_a14)) 3 (some b16_a16)) 4 (some b16_a18))), (10, .inr (7, [.ref b16_b18_a11, .int 0])), (11, rfA (gK G) 40 (fun _ => none)), (12, .inr (7, [.ref b16_b18_a13, .int 0])), (13, rfA (gK G) 40 (fun _ => none)), (14, .inr (7, [.ref b16_b18_a15, .int 0])), (15, rfA (gK G) 40 (fun _ => none)), (16, .inr (7, [.ref b16_b18_a17, .int 0])), (17, rfA (gK G) 40 (fun _ => none)), (18, .inr (7, [.ref b16_b18_a19, .int 0])), (19, rfA (gK G) 40 (fun _ => none)), (3, .inr (8, [.int 0, .ref (ge G), .int 0])), (4, inA (gZ G) 40 (fun _ => 0))]) hd rfl
  exact zgv hC hd hr hlk d_KG_init_41 ⟨a1, b16_a2, b16_a10, b16_b18_a11, b16_a12, b16_b18_a13, b16_a14, b16_b18_a15, b16_a16, b16_b18_a17, b16_a18, b16_b18_a19, a3, a4, rfl, rfl, rfl⟩ (Nat.le_of_ble_eq_true rfl) (Nat.le_of_ble_eq_true rfl)
