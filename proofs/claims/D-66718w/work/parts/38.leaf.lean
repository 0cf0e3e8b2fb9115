def XP (Z : Zt) : Prop := 0 < xn Z 0 0 ∧ 0 < xn Z 0 3 ∧ 0 < xn Z 0 4
theorem XP.kg {Z : Zt} (h : XP Z) : 0 < xn Z 0 0 := h.1
theorem XP.l0 {Z : Zt} (h : XP Z) : 0 < xn Z 0 3 := h.2.1
theorem XP.mk {Z : Zt} (hX : XS Z) (kd : Nat) : XP (x_mk Z kd) := by
  have := hX.1
  refine ⟨?_, ?_, ?_⟩
  · rw [mk_xn]; simp; omega
  · rw [mk_xn]; simp
  · rw [mk_xn]; simp
def x_leafZ (Z : Zt) (v : Int64) : Zt := si (sl (si (x_mk Z 6) 1 (xn Z 0 1) 1) 1 (xn Z 0 1) v) 2 (xn Z 0 1) (xi (x_mk Z 6) 14 0)
def x_leafR (Z : Zt) (v : Int64) : Zt × Int32 := if xn Z 2 0 = 40 then (Z, -1) else (x_add (x_leafZ Z v) 0 (xn Z 0 1), nI (xn Z 0 1))
def x_keyR (Z : Zt) (f : Int32) : Zt × Int32 := if xn Z 2 0 = 40 then (Z, -1) else if f < 0 then (Z, -1) else if f < 6 then (x_add (x_mk Z f.toNatClampNeg) 0 (xn Z 0 1), nI (xn Z 0 1)) else (Z, -1)
/-- the law's own objects stay where they are -/
def Keep (ad ad' : Nat → Nat → Nat) : Prop := ad' 0 0 = ad 0 0 ∧ ad' 10 0 = ad 10 0 ∧ ad' 12 0 = ad 12 0
def QK (G : Gt) (ad : Nat → Nat → Nat) (Z9 : Zt) (v9 : Option Value) : Array Value → State → Outcome → State → Prop := Qg G (fun ad' _ Z' v => Keep ad ad' ∧ Z9 = Z' ∧ v9 = v)
def BornPre (Z : Zt) : Prop := (∀ i j, xc Z 4 i j ≤ xn Z 0 1) ∧ (∀ i j, xc Z 7 i j ≤ xn Z 0 1) ∧ (∀ r, xr Z r = none) ∧ 50 ≤ xn Z 0 13
theorem ads_ne (ad : Nat → Nat → Nat) (A : List (Nat × Nat)) {o i : Nat} (h : o ≠ 13) : ads ad A o i = ad o i := by rw [ads_def, if_neg h]
set_option maxHeartbeats 4000000 in
theorem c_KG_leaf_yes (l : Launch) (G : Gt) (ad : Nat → Nat → Nat) (ow : Nat → Nat × Nat) (Z : Zt) (hX : XS Z) (hB : BornPre Z) (v : Int64) (hlt : xn Z 0 1 < 40) (ha : AddPre (x_leafZ Z v) 0) : Met l y_KG_leaf w_KG_leaf ({ frames := 7, cells := 5, slots := 86, locals := 191 }) (zPc G ad ow Z [.ref (ad 0 0), .long v]) (QK G ad (x_add (x_leafZ Z v) 0 (xn Z 0 1)) (some (.int (nI (xn Z 0 1))))) 5 86 (zA G) := by
  refine zopen (cc := b_KG_leaf) (maxL := 4) (ret := (some FieldType.int)) (by decide) rfl (Nat.le_of_ble_eq_true rfl) ?_
  intro p e s m below meth c ls hC hr hlk hnm hd hl
  have hC : Cx G p c m s _ "KeyGraph" b_KG_leaf 4 := hC
  have hl : lv_has ls 4 [(0, .ref (ad 0 0)), (1, .long v)] := hl
  have hx := hC.1
  have hb := hC.2.1
  obtain ⟨hb4, hb7, hraw, h13⟩ := hB
  have hkl := hX.kl
  obtain ⟨n, hn⟩ : ∃ n, n = xn Z 0 1 := ⟨_, rfl⟩
  have hsz : xn Z 2 0 = n := by omega
  rw [← hn]
  have hd : Dy G (ads ad []) ow (srs Z []) s s.heap [] := by rw [ads_nil, srs_nil]; exact hd
  obtain ⟨H, hH⟩ : ∃ q, q = s.heap := ⟨_, rfl⟩
  obtain ⟨locs, hlocs⟩ : ∃ q : List Loc, q = [] := ⟨_, rfl⟩
  rw [← hH, ← hlocs] at hd
  rw [← hH, ← hlocs]
  have ha : AddPre (si (sl (si (x_mk Z 6) 1 n 1) 1 n v) 2 n (xi (x_mk Z 6) 14 0)) 0 := by rw [hn]; exact ha
  have ez : x_leafZ Z v = si (sl (si (x_mk Z 6) 1 n 1) 1 n v) 2 n (xi (x_mk Z 6) 14 0) := by rw [hn]; rfl
  rw [ez]
  refine lv_aload_n hx hb d_KG_leaf_0 rfl (lv_at hl 0 rfl) ?_
  refine zget (ad := (ads ad [])) (o := 0) (i := 0) hC hd (e_kg hX.kg) rfl i_KG 0 (by decide) q_80 (Or.inl rfl) (v := .ref (ad 3 0)) rfl d_KG_leaf_1 ?_
  refine zb_i (r := (nI n)) hd (zrunV (n := 0) (rest := []) hC hd (e_list hX.l0) rfl (show Met l y_AL_size w_AL_size _ _ (Qd G (ads ad []) ow (srs Z []) (some (.int (nI n)))) 0 0 (zA G) from by rw [← hsz]; exact c_AL_size l G (ads ad []) ow (srs Z []) 0 (show 0 < xn Z 0 3 from hX.l0)) q_101 q_102 q_103 q_4 q_104 rfl rfl rfl (by decide +kernel) ⟨by decide, by decide⟩ rfl hl.1 (Nat.le_of_ble_eq_true rfl) d_KG_leaf_4 ⟨by decide, by decide⟩) (fun H locs hd => ?_)
  refine lv_bipush (v := 40) hx hb d_KG_leaf_7 (by decide) ?_
  refine zc_ne (x := n) (y := 40) (tgt := 14) (by omega) (by omega) hx hb d_KG_leaf_9 (by decide) (fun c9 => ?_) (fun c9 => absurd c9 (by omega))
  refine znew (ci := 1) (ad := (ads ad [])) (rest := []) (fs := [.int 0, .null, .null, .int 0, .long 0, .int 0, .int 0, .int 0, .int 0, .int 0, .int 0, .null, .null, .int 0, .int 0, .int 0, .int 0, .int 0]) hC hd rfl i_Key t_Key t_Key_ok q_105 q_106 q_7 df_Key 0 (show 0 < xn Z 0 13 by omega) (Nat.le_of_ble_eq_true rfl) (Nat.le_of_ble_eq_true rfl) d_KG_leaf_14 (fun a0 ow H hd => ?_)
  have hd := Dy.norm (A' := [(0, a0)]) (L' := [(0, .inr (1, [.int 0, .null, .null, .int 0, .long 0, .int 0, .int 0, .int 0, .int 0, .int 0, .int 0, .null, .null, .int 0, .int 0, .int 0, .int 0, .int 0]))]) hd rfl rfl
  refine lv_dup hx hb d_KG_leaf_17 rfl ?_
  refine lv_aload_n hx hb d_KG_leaf_18 rfl (lv_at hl 0 rfl) ?_
  refine zget (ad := (ads ad [(0, a0)])) (o := 0) (i := 0) hC hd (e_kg hX.kg) rfl i_KG 0 (by decide) q_80 (Or.inl rfl) (v := .ref (ad 3 0)) rfl d_KG_leaf_19 ?_
  refine zb_i (r := (nI n)) hd (zrunV (n := 0) (rest := [.ref a0, .ref a0]) hC hd (e_list hX.l0) rfl (show Met l y_AL_size w_AL_size _ _ (Qd G (ads ad [(0, a0)]) ow (srs Z [(0, .inr (1, [.int 0, .null, .null, .int 0, .long 0, .int 0, .int 0, .int 0, .int 0, .int 0, .int 0, .null, .null, .int 0, .int 0, .int 0, .int 0, .int 0]))]) (some (.int (nI n)))) 0 0 (zA G) from by rw [← hsz]; exact c_AL_size l G (ads ad [(0, a0)]) ow (srs Z [(0, .inr (1, [.int 0, .null, .null, .int 0, .long 0, .int 0, .int 0, .int 0, .int 0, .int 0, .int 0, .null, .null, .int 0, .int 0, .int 0, .int 0, .int 0]))]) 0 (show 0 < xn Z 0 3 from hX.l0)) q_101 q_102 q_103 q_4 q_104 rfl rfl rfl (by decide +kernel) ⟨by decide, by decide⟩ rfl hl.1 (Nat.le_of_ble_eq_true rfl) d_KG_leaf_22 ⟨by decide, by decide⟩) (fun H locs hd => ?_)
  refine lv_null hx hb d_KG_leaf_25 ?_
  refine zbackg hd (zrunI (n := 2) (rest := [.ref a0]) hC hd (c_Key_init_leaf l G (ads ad [(0, a0)]) ow (srs Z [(0, .inr (1, [.int 0, .null, .null, .int 0, .long 0, .int 0, .int 0, .int 0, .int 0, .int 0, .int 0, .null, .null, .int 0, .int 0, .int 0, .int 0, .int 0]))]) (show 50 ≤ xn Z 0 13 from h13) rfl n) q_107 q_108 q_7 q_109 rfl rfl rfl rfl ⟨by decide, by decide, by decide +kernel⟩ ⟨by decide, by decide⟩ rfl hl.1 (Nat.le_of_ble_eq_true rfl) d_KG_leaf_26 ⟨by decide, by decide⟩) rfl rfl (fun ad9 ow Z9 v9 H locs hq hd => ?_)
  obtain ⟨b26_a2, b26_a3, b26_a4, rfl, rfl, rfl⟩ := hq
  have hd := Dy.normC (A' := [(0, a0), (2, b26_a2), (3, b26_a3), (4, b26_a4)]) (L' := [(0, .inr (1, [.int (nI n), .null, .ref b26_a2, .int 0, .long 0, .int 0, .int (-1), .int 0, .int 0, .int 0, .int 0, .ref b26_a3, .ref b26_a4, .int 0, .int 0, .int (-1), .int 0, .int 0])), (2, .inr (8, [.int 0, .ref (ge G), .int 0])), (3, inA (gI G) 8 (fun _ => 0)), (4, inA (gI G) 8 (fun _ => 0))]) hd rfl rfl rfl rfl
  obtain ⟨ow, hd⟩ := Dy.born (ad := ad) (ad1 := (ads ad [(0, a0), (2, b26_a2), (3, b26_a3), (4, b26_a4)])) (Z1 := (srs Z [(0, .inr (1, [.int (nI n), .null, .ref b26_a2, .int 0, .long 0, .int 0, .int (-1), .int 0, .int 0, .int 0, .int 0, .ref b26_a3, .ref b26_a4, .int 0, .int 0, .int (-1), .int 0, .int 0])), (2, .inr (8, [.int 0, .ref (ge G), .int 0])), (3, inA (gI G) 8 (fun _ => 0)), (4, inA (gI G) 8 (fun _ => 0))])) (kd := 6) (a0 := a0) (a1 := (ad 13 1)) (a2 := b26_a2) (a3 := b26_a3) (a4 := b26_a4) hn hX hb4 hb7 hraw h13 (fun o i ho => ads_ne ad _ ho) ⟨rfl, rfl, rfl, rfl⟩ hd rfl rfl rfl rfl rfl rfl (Or.inl rfl) rfl rfl rfl
  have e00 : bornA ad n a0 (ad 13 1) b26_a2 b26_a3 b26_a4 0 0 = ad 0 0 := rfl
  have e10 : bornA ad n a0 (ad 13 1) b26_a2 b26_a3 b26_a4 10 0 = ad 10 0 := rfl
  have e12 : bornA ad n a0 (ad 13 1) b26_a2 b26_a3 b26_a4 12 0 = ad 12 0 := rfl
  have e30 : bornA ad n a0 (ad 13 1) b26_a2 b26_a3 b26_a4 3 0 = ad 3 0 := by unfold bornA; simp
  have e1n : bornA ad n a0 (ad 13 1) b26_a2 b26_a3 b26_a4 1 n = a0 := by unfold bornA; simp
  generalize bornA ad n a0 (ad 13 1) b26_a2 b26_a3 b26_a4 = ad2 at hd e00 e10 e12 e30 e1n
  rw [← e00] at hl
  change W _ _ _ _ _ _ _ _ _ _ _ _ _ _ _ (F0 m 29 ls [.ref a0])
  rw [← e1n]
  have hP : XP (x_mk Z 6) := XP.mk hX 6
  have hkn : n < xn (x_mk Z 6) 0 1 := by rw [mk_xn]; simp; omega
  refine lv_astore_n (lv' := [(3, .ref (ad2 1 n)), (0, .ref (ad2 0 0)), (1, .long v)]) hx hb d_KG_leaf_29 rfl hl (by decide) rfl (fun ls hl => ?_)
  refine lv_aload_n hx hb d_KG_leaf_30 rfl (lv_at hl 0 rfl) ?_
  refine lv_iconst (v := 1) hx hb d_KG_leaf_31 (by decide) ?_
  refine zputN (Z' := (si (x_mk Z 6) 1 n 1)) (v := .int 1) hC hd (e_key hkn) rfl i_Key t_Key t_Key_ok n_Key 3 (by decide) z_119 rfl rfl rfl rfl (Nat.le_of_ble_eq_true rfl) (u_st hkn) d_KG_leaf_32 (fun H locs hd => ?_)
  refine lv_aload_n hx hb d_KG_leaf_35 rfl (lv_at hl 0 rfl) ?_
  refine lv_lload_n hx hb d_KG_leaf_36 rfl (lv_at hl 2 rfl) ?_
  refine zputN (Z' := (sl (si (x_mk Z 6) 1 n 1) 1 n v)) (v := .long v) hC hd (e_key hkn) rfl i_Key t_Key t_Key_ok n_Key 4 (by decide) z_120 rfl rfl rfl rfl (Nat.le_of_ble_eq_true rfl) (u_val hkn) d_KG_leaf_37 (fun H locs hd => ?_)
  refine lv_aload_n hx hb d_KG_leaf_40 rfl (lv_at hl 0 rfl) ?_
  refine lv_aload_n hx hb d_KG_leaf_41 rfl (lv_at hl 1 rfl) ?_
  refine zget hC hd (e_kg hP.kg) rfl i_KG 3 (by decide) q_83 (Or.inl rfl) (v := .int (xi (x_mk Z 6) 14 0)) rfl d_KG_leaf_42 ?_
  refine zputN (Z' := (si (sl (si (x_mk Z 6) 1 n 1) 1 n v) 2 n (xi (x_mk Z 6) 14 0))) (v := .int (xi (x_mk Z 6) 14 0)) hC hd (e_key hkn) rfl i_Key t_Key t_Key_ok n_Key 5 (by decide) z_121 rfl rfl rfl rfl (Nat.le_of_ble_eq_true rfl) (u_chg hkn) d_KG_leaf_45 (fun H locs hd => ?_)
  refine lv_aload_n hx hb d_KG_leaf_48 rfl (lv_at hl 1 rfl) ?_
  refine zget hC hd (e_kg hP.kg) rfl i_KG 0 (by decide) q_80 (Or.inl rfl) (v := .ref (ad2 3 0)) rfl d_KG_leaf_49 ?_
  refine lv_aload_n hx hb d_KG_leaf_52 rfl (lv_at hl 0 rfl) ?_
  refine zbackg hd (zrunV (n := 1) (rest := []) hC hd (e_list hP.l0) rfl (c_AL_add1 l G ad2 ow (si (sl (si (x_mk Z 6) 1 n 1) 1 n v) 2 n (xi (x_mk Z 6) 14 0)) 0 n ha hkn) q_176 q_177 q_178 q_4 q_179 rfl rfl rfl (by decide +kernel) ⟨by decide, by decide⟩ rfl hl.1 (Nat.le_of_ble_eq_true rfl) d_KG_leaf_53 ⟨by decide, by decide⟩) rfl rfl (fun ad9 ow Z9 v9 H locs hq hd => ?_)
  obtain ⟨a, b, had, rfl, rfl⟩ := hq
  have f1 : ad9 1 n = ad2 1 n := by rw [← had]; rfl
  rw [← f1] at hl
  change W _ _ _ _ _ _ _ _ _ _ _ _ _ _ _ (F0 m 56 ls [.int 1])
  refine lv_pop hx hb d_KG_leaf_56 rfl ?_
  refine lv_aload_n hx hb d_KG_leaf_57 rfl (lv_at hl 0 rfl) ?_
  refine zgetN hC hd (e_key (show n < xn (x_mk Z 6) 0 1 from hkn)) rfl i_Key 0 (by decide) z_114 (Or.inl rfl) (v := .int (nI n)) rfl d_KG_leaf_58 ?_
  exact zgi hC hd hr hlk d_KG_leaf_61 ⟨⟨by rw [← had]; exact e00, by rw [← had]; exact e10, by rw [← had]; exact e12⟩, rfl, rfl⟩ (Nat.le_of_ble_eq_true rfl) (Nat.le_of_ble_eq_true rfl)
theorem mk_fn0 {Z : Zt} {n : Nat} (hn : n = xn Z 0 1) : fnE (x_mk Z 0) n = some (.inr (2, [.int 0, .int 0, .long 0, .int 0, .int 0])) := by
  unfold fnE
  rw [show xn (x_mk Z 0) 1 n = 0 by rw [mk_xn, ← hn]; simp]
  simp only [fnF, mk_xi, mk_xl, ← hn]
  simp <;> rfl
theorem mk_fn1 {Z : Zt} {n : Nat} (hn : n = xn Z 0 1) : fnE (x_mk Z 1) n = some (.inr (3, [.int 0, .int 0, .long 0, .int 0])) := by
  unfold fnE
  rw [show xn (x_mk Z 1) 1 n = 1 by rw [mk_xn, ← hn]; simp]
  simp only [fnF, mk_xi, mk_xl, ← hn]
  simp <;> rfl
theorem mk_fn2 {Z : Zt} {n : Nat} (hn : n = xn Z 0 1) : fnE (x_mk Z 2) n = some (.inr (4, [.int 0, .int 0, .long 0, .int 0, .int 0])) := by
  unfold fnE
  rw [show xn (x_mk Z 2) 1 n = 2 by rw [mk_xn, ← hn]; simp]
  simp only [fnF, mk_xi, mk_xl, ← hn]
  simp <;> rfl
theorem mk_fn3 {Z : Zt} {n : Nat} (hn : n = xn Z 0 1) : fnE (x_mk Z 3) n = some (.inr (5, [.int 0, .int 0, .long 0, .int 0])) := by
  unfold fnE
  rw [show xn (x_mk Z 3) 1 n = 3 by rw [mk_xn, ← hn]; simp]
  simp only [fnF, mk_xi, mk_xl, ← hn]
  simp <;> rfl
theorem mk_fn4 {Z : Zt} {n : Nat} (hn : n = xn Z 0 1) : fnE (x_mk Z 4) n = some (.inr (2, [.int 0, .int 0, .long 0, .int 0, .int 1])) := by
  unfold fnE
  rw [show xn (x_mk Z 4) 1 n = 4 by rw [mk_xn, ← hn]; simp]
  simp only [fnF, mk_xi, mk_xl, ← hn]
  simp <;> rfl
theorem mk_fn5 {Z : Zt} {n : Nat} (hn : n = xn Z 0 1) : fnE (x_mk Z 5) n = some (.inr (6, [.int 0, .int 0, .long 0, .int 0])) := by
  unfold fnE
  rw [show xn (x_mk Z 5) 1 n = 5 by rw [mk_xn, ← hn]; simp]
  simp only [fnF, mk_xi, mk_xl, ← hn]
  simp <;> rfl
set_option maxHeartbeats 4000000 in
theorem c_KG_leaf_no (l : Launch) (G : Gt) (ad : Nat → Nat → Nat) (ow : Nat → Nat × Nat) (Z : Zt) (hX : XS Z) (v : Int64) (h40 : xn Z 2 0 = 40) : Met l y_KG_leaf w_KG_leaf ({ frames := 7, cells := 5, slots := 86, locals := 191 }) (zPc G ad ow Z [.ref (ad 0 0), .long v]) (QK G ad Z (some (.int (-1)))) 5 86 (zA G) := by
  refine zopen (cc := b_KG_leaf) (maxL := 4) (ret := (some FieldType.int)) (by decide) rfl (Nat.le_of_ble_eq_true rfl) ?_
  intro p e s m below meth c ls hC hr hlk hnm hd hl
  have hC : Cx G p c m s _ "KeyGraph" b_KG_leaf 4 := hC
  have hl : lv_has ls 4 [(0, .ref (ad 0 0)), (1, .long v)] := hl
  have hx := hC.1
  have hb := hC.2.1
  refine lv_aload_n hx hb d_KG_leaf_0 rfl (lv_at hl 0 rfl) ?_
  refine zget hC hd (e_kg hX.kg) rfl i_KG 0 (by decide) q_80 (Or.inl rfl) (v := .ref (ad 3 0)) rfl d_KG_leaf_1 ?_
  refine zb_i (r := (nI (xn Z 2 0))) hd (zrunV (n := 0) (rest := []) hC hd (e_list hX.l0) rfl (c_AL_size l G ad ow Z 0 hX.l0) q_101 q_102 q_103 q_4 q_104 rfl rfl rfl (by decide +kernel) ⟨by decide, by decide⟩ rfl hl.1 (Nat.le_of_ble_eq_true rfl) d_KG_leaf_4 ⟨by decide, by decide⟩) (fun H locs hd => ?_)
  refine lv_bipush (v := 40) hx hb d_KG_leaf_7 (by decide) ?_
  refine zc_ne (x := xn Z 2 0) (y := 40) (tgt := 14) (by omega) (by omega) hx hb d_KG_leaf_9 (by decide) (fun c9 => absurd h40 (by omega)) (fun c9 => ?_)
  refine lv_iconst (v := (-1)) hx hb d_KG_leaf_12 (by decide) ?_
  exact zgi hC hd hr hlk d_KG_leaf_13 ⟨⟨rfl, rfl, rfl⟩, rfl, rfl⟩ (Nat.le_of_ble_eq_true rfl) (Nat.le_of_ble_eq_true rfl)
theorem c_KG_leaf (l : Launch) (G : Gt) (ad : Nat → Nat → Nat) (ow : Nat → Nat × Nat) (Z : Zt) (hX : XS Z) (hB : BornPre Z) (v : Int64) (ha : xn Z 0 1 < 40 → AddPre (x_leafZ Z v) 0) : Met l y_KG_leaf w_KG_leaf ({ frames := 7, cells := 5, slots := 86, locals := 191 }) (zPc G ad ow Z [.ref (ad 0 0), .long v]) (QK G ad (x_leafR Z v).1 (some (.int (x_leafR Z v).2))) 5 86 (zA G) := by
  have hk := hX.kl
  have h40 := hX.k40
  unfold x_leafR
  by_cases h : xn Z 2 0 = 40
  · rw [if_pos h]; exact c_KG_leaf_no l G ad ow Z hX v h
  · rw [if_neg h]; exact c_KG_leaf_yes l G ad ow Z hX hB v (by omega) (ha (by omega))
set_option maxHeartbeats 4000000 in
theorem c_KG_key_no (l : Launch) (G : Gt) (ad : Nat → Nat → Nat) (ow : Nat → Nat × Nat) (Z : Zt) (hX : XS Z) (f : Int32) (hno : xn Z 2 0 = 40 ∨ f < 0 ∨ ¬ f < 6) : Met l y_KG_key w_KG_key ({ frames := 7, cells := 6, slots := 91, locals := 191 }) (zPc G ad ow Z [.ref (ad 0 0), .int f]) (QK G ad Z (some (.int (-1)))) 6 91 (zA G) := by
  refine zopen (cc := b_KG_key) (maxL := 2) (ret := (some FieldType.int)) (by decide) rfl (Nat.le_of_ble_eq_true rfl) ?_
  intro p e s m below meth c ls hC hr hlk hnm hd hl
  have hC : Cx G p c m s _ "KeyGraph" b_KG_key 2 := hC
  have hl : lv_has ls 2 [(0, .ref (ad 0 0)), (1, .int f)] := hl
  have hx := hC.1
  have hb := hC.2.1
  have hkl := hX.kl
  have h40 := hX.k40
  refine lv_aload_n hx hb d_KG_key_0 rfl (lv_at hl 0 rfl) ?_
  refine zget hC hd (e_kg hX.kg) rfl i_KG 0 (by decide) q_80 (Or.inl rfl) (v := .ref (ad 3 0)) rfl d_KG_key_1 ?_
  refine zb_i (r := (nI (xn Z 2 0))) hd (zrunV (n := 0) (rest := []) hC hd (e_list hX.l0) rfl (c_AL_size l G ad ow Z 0 hX.l0) q_101 q_102 q_103 q_4 q_104 rfl rfl rfl (by decide +kernel) ⟨by decide, by decide⟩ rfl hl.1 (Nat.le_of_ble_eq_true rfl) d_KG_key_4 ⟨by decide, by decide⟩) (fun H locs hd => ?_)
  refine lv_bipush (v := 40) hx hb d_KG_key_7 (by decide) ?_
  refine zc_eq (x := xn Z 2 0) (y := 40) (tgt := 22) (by omega) (by omega) hx hb d_KG_key_9 (by decide) (fun c9 => ?_) (fun c9 => ?_)
  · refine lv_iconst (v := (-1)) hx hb d_KG_key_22 (by decide) ?_
    exact zgi hC hd hr hlk d_KG_key_23 ⟨⟨rfl, rfl, rfl⟩, rfl, rfl⟩ (Nat.le_of_ble_eq_true rfl) (Nat.le_of_ble_eq_true rfl)
  · refine lv_iload_n hx hb d_KG_key_12 rfl (lv_at hl 1 rfl) ?_
    refine lv_if_lt (tgt := 22) hx hb d_KG_key_13 (by decide) (fun c13 => ?_) (fun c13 => ?_)
    · refine lv_iconst (v := (-1)) hx hb d_KG_key_22 (by decide) ?_
      exact zgi hC hd hr hlk d_KG_key_23 ⟨⟨rfl, rfl, rfl⟩, rfl, rfl⟩ (Nat.le_of_ble_eq_true rfl) (Nat.le_of_ble_eq_true rfl)
    · refine lv_iload_n hx hb d_KG_key_16 rfl (lv_at hl 1 rfl) ?_
      refine lv_bipush (v := 6) hx hb d_KG_key_17 (by decide) ?_
      refine lv_icmp_lt (tgt := 24) hx hb d_KG_key_19 (by decide) (fun c19 => absurd hno (fun q => q.elim c9 (fun q => q.elim c13 (fun q => q c19)))) (fun c19 => ?_)
      refine lv_iconst (v := (-1)) hx hb d_KG_key_22 (by decide) ?_
      exact zgi hC hd hr hlk d_KG_key_23 ⟨⟨rfl, rfl, rfl⟩, rfl, rfl⟩ (Nat.le_of_ble_eq_true rfl) (Nat.le_of_ble_eq_true rfl)
set_option maxHeartbeats 4000000 in
theorem c_KG_key_0 (l : Launch) (G : Gt) (ad : Nat → Nat → Nat) (ow : Nat → Nat × Nat) (Z : Zt) (hX : XS Z) (hB : BornPre Z) (hlt : xn Z 0 1 < 40) (ha : AddPre (x_mk Z 0) 0) : Met l y_KG_key w_KG_key ({ frames := 7, cells := 6, slots := 91, locals := 191 }) (zPc G ad ow Z [.ref (ad 0 0), .int 0]) (QK G ad (x_add (x_mk Z 0) 0 (xn Z 0 1)) (some (.int (nI (xn Z 0 1))))) 6 91 (zA G) := by
  refine zopen (cc := b_KG_key) (maxL := 2) (ret := (some FieldType.int)) (by decide) rfl (Nat.le_of_ble_eq_true rfl) ?_
  intro p e s m below meth c ls hC hr hlk hnm hd hl
  have hC : Cx G p c m s _ "KeyGraph" b_KG_key 2 := hC
  have hl : lv_has ls 2 [(0, .ref (ad 0 0)), (1, .int 0)] := hl
  have hx := hC.1
  have hb := hC.2.1
  obtain ⟨hb4, hb7, hraw, h13⟩ := hB
  have hkl := hX.kl
  obtain ⟨n, hn⟩ : ∃ n, n = xn Z 0 1 := ⟨_, rfl⟩
  have hsz : xn Z 2 0 = n := by omega
  rw [← hn]
  have hd : Dy G (ads ad []) ow (srs Z []) s s.heap [] := by rw [ads_nil, srs_nil]; exact hd
  obtain ⟨H, hH⟩ : ∃ q, q = s.heap := ⟨_, rfl⟩
  obtain ⟨locs, hlocs⟩ : ∃ q : List Loc, q = [] := ⟨_, rfl⟩
  rw [← hH, ← hlocs] at hd
  rw [← hH, ← hlocs]
  refine lv_aload_n hx hb d_KG_key_0 rfl (lv_at hl 0 rfl) ?_
  refine zget (ad := (ads ad [])) (o := 0) (i := 0) hC hd (e_kg hX.kg) rfl i_KG 0 (by decide) q_80 (Or.inl rfl) (v := .ref (ad 3 0)) rfl d_KG_key_1 ?_
  refine zb_i (r := (nI n)) hd (zrunV (n := 0) (rest := []) hC hd (e_list hX.l0) rfl (show Met l y_AL_size w_AL_size _ _ (Qd G (ads ad []) ow (srs Z []) (some (.int (nI n)))) 0 0 (zA G) from by rw [← hsz]; exact c_AL_size l G (ads ad []) ow (srs Z []) 0 (show 0 < xn Z 0 3 from hX.l0)) q_101 q_102 q_103 q_4 q_104 rfl rfl rfl (by decide +kernel) ⟨by decide, by decide⟩ rfl hl.1 (Nat.le_of_ble_eq_true rfl) d_KG_key_4 ⟨by decide, by decide⟩) (fun H locs hd => ?_)
  refine lv_bipush (v := 40) hx hb d_KG_key_7 (by decide) ?_
  refine zc_eq (x := n) (y := 40) (tgt := 22) (by omega) (by omega) hx hb d_KG_key_9 (by decide) (fun c9 => absurd c9 (by omega)) (fun c9 => ?_)
  refine lv_iload_n hx hb d_KG_key_12 rfl (lv_at hl 1 rfl) ?_
  refine lv_if_lt (tgt := 22) hx hb d_KG_key_13 (by decide) (fun c => absurd c (by decide)) (fun _ => ?_)
  refine lv_iload_n hx hb d_KG_key_16 rfl (lv_at hl 1 rfl) ?_
  refine lv_bipush (v := 6) hx hb d_KG_key_17 (by decide) ?_
  refine lv_icmp_lt (tgt := 24) hx hb d_KG_key_19 (by decide) (fun _ => ?_) (fun c => absurd c (by decide))
  refine lv_aload_n hx hb d_KG_key_24 rfl (lv_at hl 0 rfl) ?_
  refine zget (ad := (ads ad [])) (o := 0) (i := 0) hC hd (e_kg hX.kg) rfl i_KG 0 (by decide) q_80 (Or.inl rfl) (v := .ref (ad 3 0)) rfl d_KG_key_25 ?_
  refine znew (ci := 1) (ad := (ads ad [])) (rest := [.ref (ad 3 0)]) (fs := [.int 0, .null, .null, .int 0, .long 0, .int 0, .int 0, .int 0, .int 0, .int 0, .int 0, .null, .null, .int 0, .int 0, .int 0, .int 0, .int 0]) hC hd rfl i_Key t_Key t_Key_ok q_105 q_106 q_7 df_Key 0 (show 0 < xn Z 0 13 by omega) (Nat.le_of_ble_eq_true rfl) (Nat.le_of_ble_eq_true rfl) d_KG_key_28 (fun a0 ow H hd => ?_)
  have hd := Dy.norm (A' := [(0, a0)]) (L' := [(0, .inr (1, [.int 0, .null, .null, .int 0, .long 0, .int 0, .int 0, .int 0, .int 0, .int 0, .int 0, .null, .null, .int 0, .int 0, .int 0, .int 0, .int 0]))]) hd rfl rfl
  refine lv_dup hx hb d_KG_key_31 rfl ?_
  refine lv_aload_n hx hb d_KG_key_32 rfl (lv_at hl 0 rfl) ?_
  refine zget (ad := (ads ad [(0, a0)])) (o := 0) (i := 0) hC hd (e_kg hX.kg) rfl i_KG 0 (by decide) q_80 (Or.inl rfl) (v := .ref (ad 3 0)) rfl d_KG_key_33 ?_
  refine zb_i (r := (nI n)) hd (zrunV (n := 0) (rest := [.ref a0, .ref a0, .ref (ad 3 0)]) hC hd (e_list hX.l0) rfl (show Met l y_AL_size w_AL_size _ _ (Qd G (ads ad [(0, a0)]) ow (srs Z [(0, .inr (1, [.int 0, .null, .null, .int 0, .long 0, .int 0, .int 0, .int 0, .int 0, .int 0, .int 0, .null, .null, .int 0, .int 0, .int 0, .int 0, .int 0]))]) (some (.int (nI n)))) 0 0 (zA G) from by rw [← hsz]; exact c_AL_size l G (ads ad [(0, a0)]) ow (srs Z [(0, .inr (1, [.int 0, .null, .null, .int 0, .long 0, .int 0, .int 0, .int 0, .int 0, .int 0, .int 0, .null, .null, .int 0, .int 0, .int 0, .int 0, .int 0]))]) 0 (show 0 < xn Z 0 3 from hX.l0)) q_101 q_102 q_103 q_4 q_104 rfl rfl rfl (by decide +kernel) ⟨by decide, by decide⟩ rfl hl.1 (Nat.le_of_ble_eq_true rfl) d_KG_key_36 ⟨by decide, by decide⟩) (fun H locs hd => ?_)
  refine lv_iload_n hx hb d_KG_key_39 rfl (lv_at hl 1 rfl) ?_
  refine zbackg hd (zrunS (n := 1) (rest := [.int (nI n), .ref a0, .ref a0, .ref (ad 3 0)]) hC hd (c_KG_made_0 l G (ads ad [(0, a0)]) ow (srs Z [(0, .inr (1, [.int 0, .null, .null, .int 0, .long 0, .int 0, .int 0, .int 0, .int 0, .int 0, .int 0, .null, .null, .int 0, .int 0, .int 0, .int 0, .int 0]))]) (show 50 ≤ xn Z 0 13 from h13)) q_239 q_240 q_1 q_241 rfl rfl rfl ⟨by decide, by decide, by decide +kernel⟩ ⟨by decide, by decide⟩ rfl hl.1 (Nat.le_of_ble_eq_true rfl) d_KG_key_40 ⟨by decide, by decide⟩) rfl rfl (fun ad9 ow Z9 v9 H locs hq hd => ?_)
  obtain ⟨b40_a1, rfl, rfl, rfl⟩ := hq
  have hd := Dy.normC (A' := [(0, a0), (1, b40_a1)]) (L' := [(0, .inr (1, [.int 0, .null, .null, .int 0, .long 0, .int 0, .int 0, .int 0, .int 0, .int 0, .int 0, .null, .null, .int 0, .int 0, .int 0, .int 0, .int 0])), (1, .inr (2, [.int 0, .int 0, .long 0, .int 0, .int 0]))]) hd rfl rfl rfl rfl
  change W _ _ _ _ _ _ _ _ _ _ _ _ _ _ _ (F0 m 43 ls [.ref b40_a1, .int (nI n), .ref a0, .ref a0, .ref (ad 3 0)])
  refine zbackg hd (zrunI (n := 2) (rest := [.ref a0, .ref (ad 3 0)]) hC hd (c_Key_init_fn l G (ads ad [(0, a0), (1, b40_a1)]) ow (srs Z [(0, .inr (1, [.int 0, .null, .null, .int 0, .long 0, .int 0, .int 0, .int 0, .int 0, .int 0, .int 0, .null, .null, .int 0, .int 0, .int 0, .int 0, .int 0])), (1, .inr (2, [.int 0, .int 0, .long 0, .int 0, .int 0]))]) (show 50 ≤ xn Z 0 13 from h13) rfl n b40_a1) q_107 q_108 q_7 q_109 rfl rfl rfl rfl ⟨by decide, by decide, by decide +kernel⟩ ⟨by decide, by decide⟩ rfl hl.1 (Nat.le_of_ble_eq_true rfl) d_KG_key_43 ⟨by decide, by decide⟩) rfl rfl (fun ad9 ow Z9 v9 H locs hq hd => ?_)
  obtain ⟨b43_a2, b43_a3, b43_a4, rfl, rfl, rfl⟩ := hq
  have hd := Dy.normC (A' := [(0, a0), (1, b40_a1), (2, b43_a2), (3, b43_a3), (4, b43_a4)]) (L' := [(0, .inr (1, [.int (nI n), .ref b40_a1, .ref b43_a2, .int 0, .long 0, .int 0, .int (-1), .int 0, .int 0, .int 0, .int 0, .ref b43_a3, .ref b43_a4, .int 0, .int 0, .int (-1), .int 0, .int 0])), (1, .inr (2, [.int 0, .int 0, .long 0, .int 0, .int 0])), (2, .inr (8, [.int 0, .ref (ge G), .int 0])), (3, inA (gI G) 8 (fun _ => 0)), (4, inA (gI G) 8 (fun _ => 0))]) hd rfl rfl rfl rfl
  obtain ⟨ow, hd⟩ := Dy.born (ad := ad) (ad1 := (ads ad [(0, a0), (1, b40_a1), (2, b43_a2), (3, b43_a3), (4, b43_a4)])) (Z1 := (srs Z [(0, .inr (1, [.int (nI n), .ref b40_a1, .ref b43_a2, .int 0, .long 0, .int 0, .int (-1), .int 0, .int 0, .int 0, .int 0, .ref b43_a3, .ref b43_a4, .int 0, .int 0, .int (-1), .int 0, .int 0])), (1, .inr (2, [.int 0, .int 0, .long 0, .int 0, .int 0])), (2, .inr (8, [.int 0, .ref (ge G), .int 0])), (3, inA (gI G) 8 (fun _ => 0)), (4, inA (gI G) 8 (fun _ => 0))])) (kd := 0) (a0 := a0) (a1 := b40_a1) (a2 := b43_a2) (a3 := b43_a3) (a4 := b43_a4) hn hX hb4 hb7 hraw h13 (fun o i ho => ads_ne ad _ ho) ⟨rfl, rfl, rfl, rfl⟩ hd rfl rfl rfl rfl rfl rfl (Or.inr ⟨by decide, .inr (2, [.int 0, .int 0, .long 0, .int 0, .int 0]), rfl, mk_fn0 hn⟩) rfl rfl rfl
  have e00 : bornA ad n a0 b40_a1 b43_a2 b43_a3 b43_a4 0 0 = ad 0 0 := rfl
  have e10 : bornA ad n a0 b40_a1 b43_a2 b43_a3 b43_a4 10 0 = ad 10 0 := rfl
  have e12 : bornA ad n a0 b40_a1 b43_a2 b43_a3 b43_a4 12 0 = ad 12 0 := rfl
  have e30 : bornA ad n a0 b40_a1 b43_a2 b43_a3 b43_a4 3 0 = ad 3 0 := by unfold bornA; simp
  have e1n : bornA ad n a0 b40_a1 b43_a2 b43_a3 b43_a4 1 n = a0 := by unfold bornA; simp
  generalize bornA ad n a0 b40_a1 b43_a2 b43_a3 b43_a4 = ad2 at hd e00 e10 e12 e30 e1n
  rw [← e00] at hl
  change W _ _ _ _ _ _ _ _ _ _ _ _ _ _ _ (F0 m 46 ls [.ref a0, .ref (ad 3 0)])
  rw [← e1n, ← e30]
  have hP : XP (x_mk Z 0) := XP.mk hX 0
  have hkn : n < xn (x_mk Z 0) 0 1 := by rw [mk_xn]; simp; omega
  refine zbackg hd (zrunV (n := 1) (rest := []) hC hd (e_list hP.l0) rfl (c_AL_add1 l G ad2 ow (x_mk Z 0) 0 n ha hkn) q_176 q_177 q_178 q_4 q_179 rfl rfl rfl (by decide +kernel) ⟨by decide, by decide⟩ rfl hl.1 (Nat.le_of_ble_eq_true rfl) d_KG_key_46 ⟨by decide, by decide⟩) rfl rfl (fun ad9 ow Z9 v9 H locs hq hd => ?_)
  obtain ⟨a, b, had, rfl, rfl⟩ := hq
  have f1 : ad9 0 0 = ad2 0 0 := by rw [← had]; rfl
  rw [← f1] at hl
  change W _ _ _ _ _ _ _ _ _ _ _ _ _ _ _ (F0 m 49 ls [.int 1])
  have hs9 : xn (x_add (x_mk Z 0) 0 n) 2 0 = n + 1 := by show xn (sn _ 2 0 _) 2 0 = n + 1; rw [xn_sn, if_pos ⟨rfl, rfl⟩, mk_xn, ← hsz]; simp
  refine lv_pop hx hb d_KG_key_49 rfl ?_
  refine lv_aload_n hx hb d_KG_key_50 rfl (lv_at hl 0 rfl) ?_
  refine zget hC hd (e_kg hP.kg) rfl i_KG 0 (by decide) q_80 (Or.inl rfl) (v := .ref (ad9 3 0)) rfl d_KG_key_51 ?_
  refine zb_i (r := (nI (n + 1))) hd (zrunV (n := 0) (rest := []) hC hd (e_list hP.l0) rfl (show Met l y_AL_size w_AL_size _ _ (Qd G ad9 ow (x_add (x_mk Z 0) 0 n) (some (.int (nI (n + 1))))) 0 0 (zA G) from by rw [← hs9]; exact c_AL_size l G ad9 ow (x_add (x_mk Z 0) 0 n) 0 hP.l0) q_101 q_102 q_103 q_4 q_104 rfl rfl rfl (by decide +kernel) ⟨by decide, by decide⟩ rfl hl.1 (Nat.le_of_ble_eq_true rfl) d_KG_key_54 ⟨by decide, by decide⟩) (fun H locs hd => ?_)
  refine lv_iconst (v := 1) hx hb d_KG_key_57 (by decide) ?_
  refine zsubN (x := n + 1) (y := 1) (by omega) hx hb d_KG_key_58 ?_
  exact zgi hC hd hr hlk d_KG_key_59 ⟨⟨by rw [← had]; exact e00, by rw [← had]; exact e10, by rw [← had]; exact e12⟩, rfl, rfl⟩ (Nat.le_of_ble_eq_true rfl) (Nat.le_of_ble_eq_true rfl)
set_option maxHeartbeats 4000000 in
theorem c_KG_key_1 (l : Launch) (G : Gt) (ad : Nat → Nat → Nat) (ow : Nat → Nat × Nat) (Z : Zt) (hX : XS Z) (hB : BornPre Z) (hlt : xn Z 0 1 < 40) (ha : AddPre (x_mk Z 1) 0) : Met l y_KG_key w_KG_key ({ frames := 7, cells := 6, slots := 91, locals := 191 }) (zPc G ad ow Z [.ref (ad 0 0), .int 1]) (QK G ad (x_add (x_mk Z 1) 0 (xn Z 0 1)) (some (.int (nI (xn Z 0 1))))) 6 91 (zA G) := by
  refine zopen (cc := b_KG_key) (maxL := 2) (ret := (some FieldType.int)) (by decide) rfl (Nat.le_of_ble_eq_true rfl) ?_
  intro p e s m below meth c ls hC hr hlk hnm hd hl
  have hC : Cx G p c m s _ "KeyGraph" b_KG_key 2 := hC
  have hl : lv_has ls 2 [(0, .ref (ad 0 0)), (1, .int 1)] := hl
  have hx := hC.1
  have hb := hC.2.1
  obtain ⟨hb4, hb7, hraw, h13⟩ := hB
  have hkl := hX.kl
  obtain ⟨n, hn⟩ : ∃ n, n = xn Z 0 1 := ⟨_, rfl⟩
  have hsz : xn Z 2 0 = n := by omega
  rw [← hn]
  have hd : Dy G (ads ad []) ow (srs Z []) s s.heap [] := by rw [ads_nil, srs_nil]; exact hd
  obtain ⟨H, hH⟩ : ∃ q, q = s.heap := ⟨_, rfl⟩
  obtain ⟨locs, hlocs⟩ : ∃ q : List Loc, q = [] := ⟨_, rfl⟩
  rw [← hH, ← hlocs] at hd
  rw [← hH, ← hlocs]
  refine lv_aload_n hx hb d_KG_key_0 rfl (lv_at hl 0 rfl) ?_
  refine zget (ad := (ads ad [])) (o := 0) (i := 0) hC hd (e_kg hX.kg) rfl i_KG 0 (by decide) q_80 (Or.inl rfl) (v := .ref (ad 3 0)) rfl d_KG_key_1 ?_
  refine zb_i (r := (nI n)) hd (zrunV (n := 0) (rest := []) hC hd (e_list hX.l0) rfl (show Met l y_AL_size w_AL_size _ _ (Qd G (ads ad []) ow (srs Z []) (some (.int (nI n)))) 0 0 (zA G) from by rw [← hsz]; exact c_AL_size l G (ads ad []) ow (srs Z []) 0 (show 0 < xn Z 0 3 from hX.l0)) q_101 q_102 q_103 q_4 q_104 rfl rfl rfl (by decide +kernel) ⟨by decide, by decide⟩ rfl hl.1 (Nat.le_of_ble_eq_true rfl) d_KG_key_4 ⟨by decide, by decide⟩) (fun H locs hd => ?_)
  refine lv_bipush (v := 40) hx hb d_KG_key_7 (by decide) ?_
  refine zc_eq (x := n) (y := 40) (tgt := 22) (by omega) (by omega) hx hb d_KG_key_9 (by decide) (fun c9 => absurd c9 (by omega)) (fun c9 => ?_)
  refine lv_iload_n hx hb d_KG_key_12 rfl (lv_at hl 1 rfl) ?_
  refine lv_if_lt (tgt := 22) hx hb d_KG_key_13 (by decide) (fun c => absurd c (by decide)) (fun _ => ?_)
  refine lv_iload_n hx hb d_KG_key_16 rfl (lv_at hl 1 rfl) ?_
  refine lv_bipush (v := 6) hx hb d_KG_key_17 (by decide) ?_
  refine lv_icmp_lt (tgt := 24) hx hb d_KG_key_19 (by decide) (fun _ => ?_) (fun c => absurd c (by decide))
  refine lv_aload_n hx hb d_KG_key_24 rfl (lv_at hl 0 rfl) ?_
  refine zget (ad := (ads ad [])) (o := 0) (i := 0) hC hd (e_kg hX.kg) rfl i_KG 0 (by decide) q_80 (Or.inl rfl) (v := .ref (ad 3 0)) rfl d_KG_key_25 ?_
  refine znew (ci := 1) (ad := (ads ad [])) (rest := [.ref (ad 3 0)]) (fs := [.int 0, .null, .null, .int 0, .long 0, .int 0, .int 0, .int 0, .int 0, .int 0, .int 0, .null, .null, .int 0, .int 0, .int 0, .int 0, .int 0]) hC hd rfl i_Key t_Key t_Key_ok q_105 q_106 q_7 df_Key 0 (show 0 < xn Z 0 13 by omega) (Nat.le_of_ble_eq_true rfl) (Nat.le_of_ble_eq_true rfl) d_KG_key_28 (fun a0 ow H hd => ?_)
  have hd := Dy.norm (A' := [(0, a0)]) (L' := [(0, .inr (1, [.int 0, .null, .null, .int 0, .long 0, .int 0, .int 0, .int 0, .int 0, .int 0, .int 0, .null, .null, .int 0, .int 0, .int 0, .int 0, .int 0]))]) hd rfl rfl
  refine lv_dup hx hb d_KG_key_31 rfl ?_
  refine lv_aload_n hx hb d_KG_key_32 rfl (lv_at hl 0 rfl) ?_
  refine zget (ad := (ads ad [(0, a0)])) (o := 0) (i := 0) hC hd (e_kg hX.kg) rfl i_KG 0 (by decide) q_80 (Or.inl rfl) (v := .ref (ad 3 0)) rfl d_KG_key_33 ?_
  refine zb_i (r := (nI n)) hd (zrunV (n := 0) (rest := [.ref a0, .ref a0, .ref (ad 3 0)]) hC hd (e_list hX.l0) rfl (show Met l y_AL_size w_AL_size _ _ (Qd G (ads ad [(0, a0)]) ow (srs Z [(0, .inr (1, [.int 0, .null, .null, .int 0, .long 0, .int 0, .int 0, .int 0, .int 0, .int 0, .int 0, .null, .null, .int 0, .int 0, .int 0, .int 0, .int 0]))]) (some (.int (nI n)))) 0 0 (zA G) from by rw [← hsz]; exact c_AL_size l G (ads ad [(0, a0)]) ow (srs Z [(0, .inr (1, [.int 0, .null, .null, .int 0, .long 0, .int 0, .int 0, .int 0, .int 0, .int 0, .int 0, .null, .null, .int 0, .int 0, .int 0, .int 0, .int 0]))]) 0 (show 0 < xn Z 0 3 from hX.l0)) q_101 q_102 q_103 q_4 q_104 rfl rfl rfl (by decide +kernel) ⟨by decide, by decide⟩ rfl hl.1 (Nat.le_of_ble_eq_true rfl) d_KG_key_36 ⟨by decide, by decide⟩) (fun H locs hd => ?_)
  refine lv_iload_n hx hb d_KG_key_39 rfl (lv_at hl 1 rfl) ?_
  refine zbackg hd (zrunS (n := 1) (rest := [.int (nI n), .ref a0, .ref a0, .ref (ad 3 0)]) hC hd (c_KG_made_1 l G (ads ad [(0, a0)]) ow (srs Z [(0, .inr (1, [.int 0, .null, .null, .int 0, .long 0, .int 0, .int 0, .int 0, .int 0, .int 0, .int 0, .null, .null, .int 0, .int 0, .int 0, .int 0, .int 0]))]) (show 50 ≤ xn Z 0 13 from h13)) q_239 q_240 q_1 q_241 rfl rfl rfl ⟨by decide, by decide, by decide +kernel⟩ ⟨by decide, by decide⟩ rfl hl.1 (Nat.le_of_ble_eq_true rfl) d_KG_key_40 ⟨by decide, by decide⟩) rfl rfl (fun ad9 ow Z9 v9 H locs hq hd => ?_)
  obtain ⟨b40_a1, rfl, rfl, rfl⟩ := hq
  have hd := Dy.normC (A' := [(0, a0), (1, b40_a1)]) (L' := [(0, .inr (1, [.int 0, .null, .null, .int 0, .long 0, .int 0, .int 0, .int 0, .int 0, .int 0, .int 0, .null, .null, .int 0, .int 0, .int 0, .int 0, .int 0])), (1, .inr (3, [.int 0, .int 0, .long 0, .int 0]))]) hd rfl rfl rfl rfl
  change W _ _ _ _ _ _ _ _ _ _ _ _ _ _ _ (F0 m 43 ls [.ref b40_a1, .int (nI n), .ref a0, .ref a0, .ref (ad 3 0)])
  refine zbackg hd (zrunI (n := 2) (rest := [.ref a0, .ref (ad 3 0)]) hC hd (c_Key_init_fn l G (ads ad [(0, a0), (1, b40_a1)]) ow (srs Z [(0, .inr (1, [.int 0, .null, .null, .int 0, .long 0, .int 0, .int 0, .int 0, .int 0, .int 0, .int 0, .null, .null, .int 0, .int 0, .int 0, .int 0, .int 0])), (1, .inr (3, [.int 0, .int 0, .long 0, .int 0]))]) (show 50 ≤ xn Z 0 13 from h13) rfl n b40_a1) q_107 q_108 q_7 q_109 rfl rfl rfl rfl ⟨by decide, by decide, by decide +kernel⟩ ⟨by decide, by decide⟩ rfl hl.1 (Nat.le_of_ble_eq_true rfl) d_KG_key_43 ⟨by decide, by decide⟩) rfl rfl (fun ad9 ow Z9 v9 H locs hq hd => ?_)
  obtain ⟨b43_a2, b43_a3, b43_a4, rfl, rfl, rfl⟩ := hq
  have hd := Dy.normC (A' := [(0, a0), (1, b40_a1), (2, b43_a2), (3, b43_a3), (4, b43_a4)]) (L' := [(0, .inr (1, [.int (nI n), .ref b40_a1, .ref b43_a2, .int 0, .long 0, .int 0, .int (-1), .int 0, .int 0, .int 0, .int 0, .ref b43_a3, .ref b43_a4, .int 0, .int 0, .int (-1), .int 0, .int 0])), (1, .inr (3, [.int 0, .int 0, .long 0, .int 0])), (2, .inr (8, [.int 0, .ref (ge G), .int 0])), (3, inA (gI G) 8 (fun _ => 0)), (4, inA (gI G) 8 (fun _ => 0))]) hd rfl rfl rfl rfl
  obtain ⟨ow, hd⟩ := Dy.born (ad := ad) (ad1 := (ads ad [(0, a0), (1, b40_a1), (2, b43_a2), (3, b43_a3), (4, b43_a4)])) (Z1 := (srs Z [(0, .inr (1, [.int (nI n), .ref b40_a1, .ref b43_a2, .int 0, .long 0, .int 0, .int (-1), .int 0, .int 0, .int 0, .int 0, .ref b43_a3, .ref b43_a4, .int 0, .int 0, .int (-1), .int 0, .int 0])), (1, .inr (3, [.int 0, .int 0, .long 0, .int 0])), (2, .inr (8, [.int 0, .ref (ge G), .int 0])), (3, inA (gI G) 8 (fun _ => 0)), (4, inA (gI G) 8 (fun _ => 0))])) (kd := 1) (a0 := a0) (a1 := b40_a1) (a2 := b43_a2) (a3 := b43_a3) (a4 := b43_a4) hn hX hb4 hb7 hraw h13 (fun o i ho => ads_ne ad _ ho) ⟨rfl, rfl, rfl, rfl⟩ hd rfl rfl rfl rfl rfl rfl (Or.inr ⟨by decide, .inr (3, [.int 0, .int 0, .long 0, .int 0]), rfl, mk_fn1 hn⟩) rfl rfl rfl
  have e00 : bornA ad n a0 b40_a1 b43_a2 b43_a3 b43_a4 0 0 = ad 0 0 := rfl
  have e10 : bornA ad n a0 b40_a1 b43_a2 b43_a3 b43_a4 10 0 = ad 10 0 := rfl
  have e12 : bornA ad n a0 b40_a1 b43_a2 b43_a3 b43_a4 12 0 = ad 12 0 := rfl
  have e30 : bornA ad n a0 b40_a1 b43_a2 b43_a3 b43_a4 3 0 = ad 3 0 := by unfold bornA; simp
  have e1n : bornA ad n a0 b40_a1 b43_a2 b43_a3 b43_a4 1 n = a0 := by unfold bornA; simp
  generalize bornA ad n a0 b40_a1 b43_a2 b43_a3 b43_a4 = ad2 at hd e00 e10 e12 e30 e1n
  rw [← e00] at hl
  change W _ _ _ _ _ _ _ _ _ _ _ _ _ _ _ (F0 m 46 ls [.ref a0, .ref (ad 3 0)])
  rw [← e1n, ← e30]
  have hP : XP (x_mk Z 1) := XP.mk hX 1
  have hkn : n < xn (x_mk Z 1) 0 1 := by rw [mk_xn]; simp; omega
  refine zbackg hd (zrunV (n := 1) (rest := []) hC hd (e_list hP.l0) rfl (c_AL_add1 l G ad2 ow (x_mk Z 1) 0 n ha hkn) q_176 q_177 q_178 q_4 q_179 rfl rfl rfl (by decide +kernel) ⟨by decide, by decide⟩ rfl hl.1 (Nat.le_of_ble_eq_true rfl) d_KG_key_46 ⟨by decide, by decide⟩) rfl rfl (fun ad9 ow Z9 v9 H locs hq hd => ?_)
  obtain ⟨a, b, had, rfl, rfl⟩ := hq
  have f1 : ad9 0 0 = ad2 0 0 := by rw [← had]; rfl
  rw [← f1] at hl
  change W _ _ _ _ _ _ _ _ _ _ _ _ _ _ _ (F0 m 49 ls [.int 1])
  have hs9 : xn (x_add (x_mk Z 1) 0 n) 2 0 = n + 1 := by show xn (sn _ 2 0 _) 2 0 = n + 1; rw [xn_sn, if_pos ⟨rfl, rfl⟩, mk_xn, ← hsz]; simp
  refine lv_pop hx hb d_KG_key_49 rfl ?_
  refine lv_aload_n hx hb d_KG_key_50 rfl (lv_at hl 0 rfl) ?_
  refine zget hC hd (e_kg hP.kg) rfl i_KG 0 (by decide) q_80 (Or.inl rfl) (v := .ref (ad9 3 0)) rfl d_KG_key_51 ?_
  refine zb_i (r := (nI (n + 1))) hd (zrunV (n := 0) (rest := []) hC hd (e_list hP.l0) rfl (show Met l y_AL_size w_AL_size _ _ (Qd G ad9 ow (x_add (x_mk Z 1) 0 n) (some (.int (nI (n + 1))))) 0 0 (zA G) from by rw [← hs9]; exact c_AL_size l G ad9 ow (x_add (x_mk Z 1) 0 n) 0 hP.l0) q_101 q_102 q_103 q_4 q_104 rfl rfl rfl (by decide +kernel) ⟨by decide, by decide⟩ rfl hl.1 (Nat.le_of_ble_eq_true rfl) d_KG_key_54 ⟨by decide, by decide⟩) (fun H locs hd => ?_)
  refine lv_iconst (v := 1) hx hb d_KG_key_57 (by decide) ?_
  refine zsubN (x := n + 1) (y := 1) (by omega) hx hb d_KG_key_58 ?_
  exact zgi hC hd hr hlk d_KG_key_59 ⟨⟨by rw [← had]; exact e00, by rw [← had]; exact e10, by rw [← had]; exact e12⟩, rfl, rfl⟩ (Nat.le_of_ble_eq_true rfl) (Nat.le_of_ble_eq_true rfl)
set_option maxHeartbeats 4000000 in
theorem c_KG_key_2 (l : Launch) (G : Gt) (ad : Nat → Nat → Nat) (ow : Nat → Nat × Nat) (Z : Zt) (hX : XS Z) (hB : BornPre Z) (hlt : xn Z 0 1 < 40) (ha : AddPre (x_mk Z 2) 0) : Met l y_KG_key w_KG_key ({ frames := 7, cells := 6, slots := 91, locals := 191 }) (zPc G ad ow Z [.ref (ad 0 0), .int 2]) (QK G ad (x_add (x_mk Z 2) 0 (xn Z 0 1)) (some (.int (nI (xn Z 0 1))))) 6 91 (zA G) := by
  refine zopen (cc := b_KG_key) (maxL := 2) (ret := (some FieldType.int)) (by decide) rfl (Nat.le_of_ble_eq_true rfl) ?_
  intro p e s m below meth c ls hC hr hlk hnm hd hl
  have hC : Cx G p c m s _ "KeyGraph" b_KG_key 2 := hC
  have hl : lv_has ls 2 [(0, .ref (ad 0 0)), (1, .int 2)] := hl
  have hx := hC.1
  have hb := hC.2.1
  obtain ⟨hb4, hb7, hraw, h13⟩ := hB
  have hkl := hX.kl
  obtain ⟨n, hn⟩ : ∃ n, n = xn Z 0 1 := ⟨_, rfl⟩
  have hsz : xn Z 2 0 = n := by omega
  rw [← hn]
  have hd : Dy G (ads ad []) ow (srs Z []) s s.heap [] := by rw [ads_nil, srs_nil]; exact hd
  obtain ⟨H, hH⟩ : ∃ q, q = s.heap := ⟨_, rfl⟩
  obtain ⟨locs, hlocs⟩ : ∃ q : List Loc, q = [] := ⟨_, rfl⟩
  rw [← hH, ← hlocs] at hd
  rw [← hH, ← hlocs]
  refine lv_aload_n hx hb d_KG_key_0 rfl (lv_at hl 0 rfl) ?_
  refine zget (ad := (ads ad [])) (o := 0) (i := 0) hC hd (e_kg hX.kg) rfl i_KG 0 (by decide) q_80 (Or.inl rfl) (v := .ref (ad 3 0)) rfl d_KG_key_1 ?_
  refine zb_i (r := (nI n)) hd (zrunV (n := 0) (rest := []) hC hd (e_list hX.l0) rfl (show Met l y_AL_size w_AL_size _ _ (Qd G (ads ad []) ow (srs Z []) (some (.int (nI n)))) 0 0 (zA G) from by rw [← hsz]; exact c_AL_size l G (ads ad []) ow (srs Z []) 0 (show 0 < xn Z 0 3 from hX.l0)) q_101 q_102 q_103 q_4 q_104 rfl rfl rfl (by decide +kernel) ⟨by decide, by decide⟩ rfl hl.1 (Nat.le_of_ble_eq_true rfl) d_KG_key_4 ⟨by decide, by decide⟩) (fun H locs hd => ?_)
  refine lv_bipush (v := 40) hx hb d_KG_key_7 (by decide) ?_
  refine zc_eq (x := n) (y := 40) (tgt := 22) (by omega) (by omega) hx hb d_KG_key_9 (by decide) (fun c9 => absurd c9 (by omega)) (fun c9 => ?_)
  refine lv_iload_n hx hb d_KG_key_12 rfl (lv_at hl 1 rfl) ?_
  refine lv_if_lt (tgt := 22) hx hb d_KG_key_13 (by decide) (fun c => absurd c (by decide)) (fun _ => ?_)
  refine lv_iload_n hx hb d_KG_key_16 rfl (lv_at hl 1 rfl) ?_
  refine lv_bipush (v := 6) hx hb d_KG_key_17 (by decide) ?_
  refine lv_icmp_lt (tgt := 24) hx hb d_KG_key_19 (by decide) (fun _ => ?_) (fun c => absurd c (by decide))
  refine lv_aload_n hx hb d_KG_key_24 rfl (lv_at hl 0 rfl) ?_
  refine zget (ad := (ads ad [])) (o := 0) (i := 0) hC hd (e_kg hX.kg) rfl i_KG 0 (by decide) q_80 (Or.inl rfl) (v := .ref (ad 3 0)) rfl d_KG_key_25 ?_
  refine znew (ci := 1) (ad := (ads ad [])) (rest := [.ref (ad 3 0)]) (fs := [.int 0, .null, .null, .int 0, .long 0, .int 0, .int 0, .int 0, .int 0, .int 0, .int 0, .null, .null, .int 0, .int 0, .int 0, .int 0, .int 0]) hC hd rfl i_Key t_Key t_Key_ok q_105 q_106 q_7 df_Key 0 (show 0 < xn Z 0 13 by omega) (Nat.le_of_ble_eq_true rfl) (Nat.le_of_ble_eq_true rfl) d_KG_key_28 (fun a0 ow H hd => ?_)
  have hd := Dy.norm (A' := [(0, a0)]) (L' := [(0, .inr (1, [.int 0, .null, .null, .int 0, .long 0, .int 0, .int 0, .int 0, .int 0, .int 0, .int 0, .null, .null, .int 0, .int 0, .int 0, .int 0, .int 0]))]) hd rfl rfl
  refine lv_dup hx hb d_KG_key_31 rfl ?_
  refine lv_aload_n hx hb d_KG_key_32 rfl (lv_at hl 0 rfl) ?_
  refine zget (ad := (ads ad [(0, a0)])) (o := 0) (i := 0) hC hd (e_kg hX.kg) rfl i_KG 0 (by decide) q_80 (Or.inl rfl) (v := .ref (ad 3 0)) rfl d_KG_key_33 ?_
  refine zb_i (r := (nI n)) hd (zrunV (n := 0) (rest := [.ref a0, .ref a0, .ref (ad 3 0)]) hC hd (e_list hX.l0) rfl (show Met l y_AL_size w_AL_size _ _ (Qd G (ads ad [(0, a0)]) ow (srs Z [(0, .inr (1, [.int 0, .null, .null, .int 0, .long 0, .int 0, .int 0, .int 0, .int 0, .int 0, .int 0, .null, .null, .int 0, .int 0, .int 0, .int 0, .int 0]))]) (some (.int (nI n)))) 0 0 (zA G) from by rw [← hsz]; exact c_AL_size l G (ads ad [(0, a0)]) ow (srs Z [(0, .inr (1, [.int 0, .null, .null, .int 0, .long 0, .int 0, .int 0, .int 0, .int 0, .int 0, .int 0, .null, .null, .int 0, .int 0, .int 0, .int 0, .int 0]))]) 0 (show 0 < xn Z 0 3 from hX.l0)) q_101 q_102 q_103 q_4 q_104 rfl rfl rfl (by decide +kernel) ⟨by decide, by decide⟩ rfl hl.1 (Nat.le_of_ble_eq_true rfl) d_KG_key_36 ⟨by decide, by decide⟩) (fun H locs hd => ?_)
  refine lv_iload_n hx hb d_KG_key_39 rfl (lv_at hl 1 rfl) ?_
  refine zbackg hd (zrunS (n := 1) (rest := [.int (nI n), .ref a0, .ref a0, .ref (ad 3 0)]) hC hd (c_KG_made_2 l G (ads ad [(0, a0)]) ow (srs Z [(0, .inr (1, [.int 0, .null, .null, .int 0, .long 0, .int 0, .int 0, .int 0, .int 0, .int 0, .int 0, .null, .null, .int 0, .int 0, .int 0, .int 0, .int 0]))]) (show 50 ≤ xn Z 0 13 from h13)) q_239 q_240 q_1 q_241 rfl rfl rfl ⟨by decide, by decide, by decide +kernel⟩ ⟨by decide, by decide⟩ rfl hl.1 (Nat.le_of_ble_eq_true rfl) d_KG_key_40 ⟨by decide, by decide⟩) rfl rfl (fun ad9 ow Z9 v9 H locs hq hd => ?_)
  obtain ⟨b40_a1, rfl, rfl, rfl⟩ := hq
  have hd := Dy.normC (A' := [(0, a0), (1, b40_a1)]) (L' := [(0, .inr (1, [.int 0, .null, .null, .int 0, .long 0, .int 0, .int 0, .int 0, .int 0, .int 0, .int 0, .null, .null, .int 0, .int 0, .int 0, .int 0, .int 0])), (1, .inr (4, [.int 0, .int 0, .long 0, .int 0, .int 0]))]) hd rfl rfl rfl rfl
  change W _ _ _ _ _ _ _ _ _ _ _ _ _ _ _ (F0 m 43 ls [.ref b40_a1, .int (nI n), .ref a0, .ref a0, .ref (ad 3 0)])
  refine zbackg hd (zrunI (n := 2) (rest := [.ref a0, .ref (ad 3 0)]) hC hd (c_Key_init_fn l G (ads ad [(0, a0), (1, b40_a1)]) ow (srs Z [(0, .inr (1, [.int 0, .null, .null, .int 0, .long 0, .int 0, .int 0, .int 0, .int 0, .int 0, .int 0, .null, .null, .int 0, .int 0, .int 0, .int 0, .int 0])), (1, .inr (4, [.int 0, .int 0, .long 0, .int 0, .int 0]))]) (show 50 ≤ xn Z 0 13 from h13) rfl n b40_a1) q_107 q_108 q_7 q_109 rfl rfl rfl rfl ⟨by decide, by decide, by decide +kernel⟩ ⟨by decide, by decide⟩ rfl hl.1 (Nat.le_of_ble_eq_true rfl) d_KG_key_43 ⟨by decide, by decide⟩) rfl rfl (fun ad9 ow Z9 v9 H locs hq hd => ?_)
  obtain ⟨b43_a2, b43_a3, b43_a4, rfl, rfl, rfl⟩ := hq
  have hd := Dy.normC (A' := [(0, a0), (1, b40_a1), (2, b43_a2), (3, b43_a3), (4, b43_a4)]) (L' := [(0, .inr (1, [.int (nI n), .ref b40_a1, .ref b43_a2, .int 0, .long 0, .int 0, .int (-1), .int 0, .int 0, .int 0, .int 0, .ref b43_a3, .ref b43_a4, .int 0, .int 0, .int (-1), .int 0, .int 0])), (1, .inr (4, [.int 0, .int 0, .long 0, .int 0, .int 0])), (2, .inr (8, [.int 0, .ref (ge G), .int 0])), (3, inA (gI G) 8 (fun _ => 0)), (4, inA (gI G) 8 (fun _ => 0))]) hd rfl rfl rfl rfl
  obtain ⟨ow, hd⟩ := Dy.born (ad := ad) (ad1 := (ads ad [(0, a0), (1, b40_a1), (2, b43_a2), (3, b43_a3), (4, b43_a4)])) (Z1 := (srs Z [(0, .inr (1, [.int (nI n), .ref b40_a1, .ref b43_a2, .int 0, .long 0, .int 0, .int (-1), .int 0, .int 0, .int 0, .int 0, .ref b43_a3, .ref b43_a4, .int 0, .int 0, .int (-1), .int 0, .int 0])), (1, .inr (4, [.int 0, .int 0, .long 0, .int 0, .int 0])), (2, .inr (8, [.int 0, .ref (ge G), .int 0])), (3, inA (gI G) 8 (fun _ => 0)), (4, inA (gI G) 8 (fun _ => 0))])) (kd := 2) (a0 := a0) (a1 := b40_a1) (a2 := b43_a2) (a3 := b43_a3) (a4 := b43_a4) hn hX hb4 hb7 hraw h13 (fun o i ho => ads_ne ad _ ho) ⟨rfl, rfl, rfl, rfl⟩ hd rfl rfl rfl rfl rfl rfl (Or.inr ⟨by decide, .inr (4, [.int 0, .int 0, .long 0, .int 0, .int 0]), rfl, mk_fn2 hn⟩) rfl rfl rfl
  have e00 : bornA ad n a0 b40_a1 b43_a2 b43_a3 b43_a4 0 0 = ad 0 0 := rfl
  have e10 : bornA ad n a0 b40_a1 b43_a2 b43_a3 b43_a4 10 0 = ad 10 0 := rfl
  have e12 : bornA ad n a0 b40_a1 b43_a2 b43_a3 b43_a4 12 0 = ad 12 0 := rfl
  have e30 : bornA ad n a0 b40_a1 b43_a2 b43_a3 b43_a4 3 0 = ad 3 0 := by unfold bornA; simp
  have e1n : bornA ad n a0 b40_a1 b43_a2 b43_a3 b43_a4 1 n = a0 := by unfold bornA; simp
  generalize bornA ad n a0 b40_a1 b43_a2 b43_a3 b43_a4 = ad2 at hd e00 e10 e12 e30 e1n
  rw [← e00] at hl
  change W _ _ _ _ _ _ _ _ _ _ _ _ _ _ _ (F0 m 46 ls [.ref a0, .ref (ad 3 0)])
  rw [← e1n, ← e30]
  have hP : XP (x_mk Z 2) := XP.mk hX 2
  have hkn : n < xn (x_mk Z 2) 0 1 := by rw [mk_xn]; simp; omega
  refine zbackg hd (zrunV (n := 1) (rest := []) hC hd (e_list hP.l0) rfl (c_AL_add1 l G ad2 ow (x_mk Z 2) 0 n ha hkn) q_176 q_177 q_178 q_4 q_179 rfl rfl rfl (by decide +kernel) ⟨by decide, by decide⟩ rfl hl.1 (Nat.le_of_ble_eq_true rfl) d_KG_key_46 ⟨by decide, by decide⟩) rfl rfl (fun ad9 ow Z9 v9 H locs hq hd => ?_)
  obtain ⟨a, b, had, rfl, rfl⟩ := hq
  have f1 : ad9 0 0 = ad2 0 0 := by rw [← had]; rfl
  rw [← f1] at hl
  change W _ _ _ _ _ _ _ _ _ _ _ _ _ _ _ (F0 m 49 ls [.int 1])
  have hs9 : xn (x_add (x_mk Z 2) 0 n) 2 0 = n + 1 := by show xn (sn _ 2 0 _) 2 0 = n + 1; rw [xn_sn, if_pos ⟨rfl, rfl⟩, mk_xn, ← hsz]; simp
  refine lv_pop hx hb d_KG_key_49 rfl ?_
  refine lv_aload_n hx hb d_KG_key_50 rfl (lv_at hl 0 rfl) ?_
  refine zget hC hd (e_kg hP.kg) rfl i_KG 0 (by decide) q_80 (Or.inl rfl) (v := .ref (ad9 3 0)) rfl d_KG_key_51 ?_
  refine zb_i (r := (nI (n + 1))) hd (zrunV (n := 0) (rest := []) hC hd (e_list hP.l0) rfl (show Met l y_AL_size w_AL_size _ _ (Qd G ad9 ow (x_add (x_mk Z 2) 0 n) (some (.int (nI (n + 1))))) 0 0 (zA G) from by rw [← hs9]; exact c_AL_size l G ad9 ow (x_add (x_mk Z 2) 0 n) 0 hP.l0) q_101 q_102 q_103 q_4 q_104 rfl rfl rfl (by decide +kernel) ⟨by decide, by decide⟩ rfl hl.1 (Nat.le_of_ble_eq_true rfl) d_KG_key_54 ⟨by decide, by decide⟩) (fun H locs hd => ?_)
  refine lv_iconst (v := 1) hx hb d_KG_key_57 (by decide) ?_
  refine zsubN (x := n + 1) (y := 1) (by omega) hx hb d_KG_key_58 ?_
  exact zgi hC hd hr hlk d_KG_key_59 ⟨⟨by rw [← had]; exact e00, by rw [← had]; exact e10, by rw [← had]; exact e12⟩, rfl, rfl⟩ (Nat.le_of_ble_eq_true rfl) (Nat.le_of_ble_eq_true rfl)
set_option maxHeartbeats 4000000 in
theorem c_KG_key_3 (l : Launch) (G : Gt) (ad : Nat → Nat → Nat) (ow : Nat → Nat × Nat) (Z : Zt) (hX : XS Z) (hB : BornPre Z) (hlt : xn Z 0 1 < 40) (ha : AddPre (x_mk Z 3) 0) : Met l y_KG_key w_KG_key ({ frames := 7, cells := 6, slots := 91, locals := 191 }) (zPc G ad ow Z [.ref (ad 0 0), .int 3]) (QK G ad (x_add (x_mk Z 3) 0 (xn Z 0 1)) (some (.int (nI (xn Z 0 1))))) 6 91 (zA G) := by
  refine zopen (cc := b_KG_key) (maxL := 2) (ret := (some FieldType.int)) (by decide) rfl (Nat.le_of_ble_eq_true rfl) ?_
  intro p e s m below meth c ls hC hr hlk hnm hd hl
  have hC : Cx G p c m s _ "KeyGraph" b_KG_key 2 := hC
  have hl : lv_has ls 2 [(0, .ref (ad 0 0)), (1, .int 3)] := hl
  have hx := hC.1
  have hb := hC.2.1
  obtain ⟨hb4, hb7, hraw, h13⟩ := hB
  have hkl := hX.kl
  obtain ⟨n, hn⟩ : ∃ n, n = xn Z 0 1 := ⟨_, rfl⟩
  have hsz : xn Z 2 0 = n := by omega
  rw [← hn]
  have hd : Dy G (ads ad []) ow (srs Z []) s s.heap [] := by rw [ads_nil, srs_nil]; exact hd
  obtain ⟨H, hH⟩ : ∃ q, q = s.heap := ⟨_, rfl⟩
  obtain ⟨locs, hlocs⟩ : ∃ q : List Loc, q = [] := ⟨_, rfl⟩
  rw [← hH, ← hlocs] at hd
  rw [← hH, ← hlocs]
  refine lv_aload_n hx hb d_KG_key_0 rfl (lv_at hl 0 rfl) ?_
  refine zget (ad := (ads ad [])) (o := 0) (i := 0) hC hd (e_kg hX.kg) rfl i_KG 0 (by decide) q_80 (Or.inl rfl) (v := .ref (ad 3 0)) rfl d_KG_key_1 ?_
  refine zb_i (r := (nI n)) hd (zrunV (n := 0) (rest := []) hC hd (e_list hX.l0) rfl (show Met l y_AL_size w_AL_size _ _ (Qd G (ads ad []) ow (srs Z []) (some (.int (nI n)))) 0 0 (zA G) from by rw [← hsz]; exact c_AL_size l G (ads ad []) ow (srs Z []) 0 (show 0 < xn Z 0 3 from hX.l0)) q_101 q_102 q_103 q_4 q_104 rfl rfl rfl (by decide +kernel) ⟨by decide, by decide⟩ rfl hl.1 (Nat.le_of_ble_eq_true rfl) d_KG_key_4 ⟨by decide, by decide⟩) (fun H locs hd => ?_)
  refine lv_bipush (v := 40) hx hb d_KG_key_7 (by decide) ?_
  refine zc_eq (x := n) (y := 40) (tgt := 22) (by omega) (by omega) hx hb d_KG_key_9 (by decide) (fun c9 => absurd c9 (by omega)) (fun c9 => ?_)
  refine lv_iload_n hx hb d_KG_key_12 rfl (lv_at hl 1 rfl) ?_
  refine lv_if_lt (tgt := 22) hx hb d_KG_key_13 (by decide) (fun c => absurd c (by decide)) (fun _ => ?_)
  refine lv_iload_n hx hb d_KG_key_16 rfl (lv_at hl 1 rfl) ?_
  refine lv_bipush (v := 6) hx hb d_KG_key_17 (by decide) ?_
  refine lv_icmp_lt (tgt := 24) hx hb d_KG_key_19 (by decide) (fun _ => ?_) (fun c => absurd c (by decide))
  refine lv_aload_n hx hb d_KG_key_24 rfl (lv_at hl 0 rfl) ?_
  refine zget (ad := (ads ad [])) (o := 0) (i := 0) hC hd (e_kg hX.kg) rfl i_KG 0 (by decide) q_80 (Or.inl rfl) (v := .ref (ad 3 0)) rfl d_KG_key_25 ?_
  refine znew (ci := 1) (ad := (ads ad [])) (rest := [.ref (ad 3 0)]) (fs := [.int 0, .null, .null, .int 0, .long 0, .int 0, .int 0, .int 0, .int 0, .int 0, .int 0, .null, .null, .int 0, .int 0, .int 0, .int 0, .int 0]) hC hd rfl i_Key t_Key t_Key_ok q_105 q_106 q_7 df_Key 0 (show 0 < xn Z 0 13 by omega) (Nat.le_of_ble_eq_true rfl) (Nat.le_of_ble_eq_true rfl) d_KG_key_28 (fun a0 ow H hd => ?_)
  have hd := Dy.norm (A' := [(0, a0)]) (L' := [(0, .inr (1, [.int 0, .null, .null, .int 0, .long 0, .int 0, .int 0, .int 0, .int 0, .int 0, .int 0, .null, .null, .int 0, .int 0, .int 0, .int 0, .int 0]))]) hd rfl rfl
  refine lv_dup hx hb d_KG_key_31 rfl ?_
  refine lv_aload_n hx hb d_KG_key_32 rfl (lv_at hl 0 rfl) ?_
  refine zget (ad := (ads ad [(0, a0)])) (o := 0) (i := 0) hC hd (e_kg hX.kg) rfl i_KG 0 (by decide) q_80 (Or.inl rfl) (v := .ref (ad 3 0)) rfl d_KG_key_33 ?_
  refine zb_i (r := (nI n)) hd (zrunV (n := 0) (rest := [.ref a0, .ref a0, .ref (ad 3 0)]) hC hd (e_list hX.l0) rfl (show Met l y_AL_size w_AL_size _ _ (Qd G (ads ad [(0, a0)]) ow (srs Z [(0, .inr (1, [.int 0, .null, .null, .int 0, .long 0, .int 0, .int 0, .int 0, .int 0, .int 0, .int 0, .null, .null, .int 0, .int 0, .int 0, .int 0, .int 0]))]) (some (.int (nI n)))) 0 0 (zA G) from by rw [← hsz]; exact c_AL_size l G (ads ad [(0, a0)]) ow (srs Z [(0, .inr (1, [.int 0, .null, .null, .int 0, .long 0, .int 0, .int 0, .int 0, .int 0, .int 0, .int 0, .null, .null, .int 0, .int 0, .int 0, .int 0, .int 0]))]) 0 (show 0 < xn Z 0 3 from hX.l0)) q_101 q_102 q_103 q_4 q_104 rfl rfl rfl (by decide +kernel) ⟨by decide, by decide⟩ rfl hl.1 (Nat.le_of_ble_eq_true rfl) d_KG_key_36 ⟨by decide, by decide⟩) (fun H locs hd => ?_)
  refine lv_iload_n hx hb d_KG_key_39 rfl (lv_at hl 1 rfl) ?_
  refine zbackg hd (zrunS (n := 1) (rest := [.int (nI n), .ref a0, .ref a0, .ref (ad 3 0)]) hC hd (c_KG_made_3 l G (ads ad [(0, a0)]) ow (srs Z [(0, .inr (1, [.int 0, .null, .null, .int 0, .long 0, .int 0, .int 0, .int 0, .int 0, .int 0, .int 0, .null, .null, .int 0, .int 0, .int 0, .int 0, .int 0]))]) (show 50 ≤ xn Z 0 13 from h13)) q_239 q_240 q_1 q_241 rfl rfl rfl ⟨by decide, by decide, by decide +kernel⟩ ⟨by decide, by decide⟩ rfl hl.1 (Nat.le_of_ble_eq_true rfl) d_KG_key_40 ⟨by decide, by decide⟩) rfl rfl (fun ad9 ow Z9 v9 H locs hq hd => ?_)
  obtain ⟨b40_a1, rfl, rfl, rfl⟩ := hq
  have hd := Dy.normC (A' := [(0, a0), (1, b40_a1)]) (L' := [(0, .inr (1, [.int 0, .null, .null, .int 0, .long 0, .int 0, .int 0, .int 0, .int 0, .int 0, .int 0, .null, .null, .int 0, .int 0, .int 0, .int 0, .int 0])), (1, .inr (5, [.int 0, .int 0, .long 0, .int 0]))]) hd rfl rfl rfl rfl
  change W _ _ _ _ _ _ _ _ _ _ _ _ _ _ _ (F0 m 43 ls [.ref b40_a1, .int (nI n), .ref a0, .ref a0, .ref (ad 3 0)])
  refine zbackg hd (zrunI (n := 2) (rest := [.ref a0, .ref (ad 3 0)]) hC hd (c_Key_init_fn l G (ads ad [(0, a0), (1, b40_a1)]) ow (srs Z [(0, .inr (1, [.int 0, .null, .null, .int 0, .long 0, .int 0, .int 0, .int 0, .int 0, .int 0, .int 0, .null, .null, .int 0, .int 0, .int 0, .int 0, .int 0])), (1, .inr (5, [.int 0, .int 0, .long 0, .int 0]))]) (show 50 ≤ xn Z 0 13 from h13) rfl n b40_a1) q_107 q_108 q_7 q_109 rfl rfl rfl rfl ⟨by decide, by decide, by decide +kernel⟩ ⟨by decide, by decide⟩ rfl hl.1 (Nat.le_of_ble_eq_true rfl) d_KG_key_43 ⟨by decide, by decide⟩) rfl rfl (fun ad9 ow Z9 v9 H locs hq hd => ?_)
  obtain ⟨b43_a2, b43_a3, b43_a4, rfl, rfl, rfl⟩ := hq
  have hd := Dy.normC (A' := [(0, a0), (1, b40_a1), (2, b43_a2), (3, b43_a3), (4, b43_a4)]) (L' := [(0, .inr (1, [.int (nI n), .ref b40_a1, .ref b43_a2, .int 0, .long 0, .int 0, .int (-1), .int 0, .int 0, .int 0, .int 0, .ref b43_a3, .ref b43_a4, .int 0, .int 0, .int (-1), .int 0, .int 0])), (1, .inr (5, [.int 0, .int 0, .long 0, .int 0])), (2, .inr (8, [.int 0, .ref (ge G), .int 0])), (3, inA (gI G) 8 (fun _ => 0)), (4, inA (gI G) 8 (fun _ => 0))]) hd rfl rfl rfl rfl
  obtain ⟨ow, hd⟩ := Dy.born (ad := ad) (ad1 := (ads ad [(0, a0), (1, b40_a1), (2, b43_a2), (3, b43_a3), (4, b43_a4)])) (Z1 := (srs Z [(0, .inr (1, [.int (nI n), .ref b40_a1, .ref b43_a2, .int 0, .long 0, .int 0, .int (-1), .int 0, .int 0, .int 0, .int 0, .ref b43_a3, .ref b43_a4, .int 0, .int 0, .int (-1), .int 0, .int 0])), (1, .inr (5, [.int 0, .int 0, .long 0, .int 0])), (2, .inr (8, [.int 0, .ref (ge G), .int 0])), (3, inA (gI G) 8 (fun _ => 0)), (4, inA (gI G) 8 (fun _ => 0))])) (kd := 3) (a0 := a0) (a1 := b40_a1) (a2 := b43_a2) (a3 := b43_a3) (a4 := b43_a4) hn hX hb4 hb7 hraw h13 (fun o i ho => ads_ne ad _ ho) ⟨rfl, rfl, rfl, rfl⟩ hd rfl rfl rfl rfl rfl rfl (Or.inr ⟨by decide, .inr (5, [.int 0, .int 0, .long 0, .int 0]), rfl, mk_fn3 hn⟩) rfl rfl rfl
  have e00 : bornA ad n a0 b40_a1 b43_a2 b43_a3 b43_a4 0 0 = ad 0 0 := rfl
  have e10 : bornA ad n a0 b40_a1 b43_a2 b43_a3 b43_a4 10 0 = ad 10 0 := rfl
  have e12 : bornA ad n a0 b40_a1 b43_a2 b43_a3 b43_a4 12 0 = ad 12 0 := rfl
  have e30 : bornA ad n a0 b40_a1 b43_a2 b43_a3 b43_a4 3 0 = ad 3 0 := by unfold bornA; simp
  have e1n : bornA ad n a0 b40_a1 b43_a2 b43_a3 b43_a4 1 n = a0 := by unfold bornA; simp
  generalize bornA ad n a0 b40_a1 b43_a2 b43_a3 b43_a4 = ad2 at hd e00 e10 e12 e30 e1n
  rw [← e00] at hl
  change W _ _ _ _ _ _ _ _ _ _ _ _ _ _ _ (F0 m 46 ls [.ref a0, .ref (ad 3 0)])
  rw [← e1n, ← e30]
  have hP : XP (x_mk Z 3) := XP.mk hX 3
  have hkn : n < xn (x_mk Z 3) 0 1 := by rw [mk_xn]; simp; omega
  refine zbackg hd (zrunV (n := 1) (rest := []) hC hd (e_list hP.l0) rfl (c_AL_add1 l G ad2 ow (x_mk Z 3) 0 n ha hkn) q_176 q_177 q_178 q_4 q_179 rfl rfl rfl (by decide +kernel) ⟨by decide, by decide⟩ rfl hl.1 (Nat.le_of_ble_eq_true rfl) d_KG_key_46 ⟨by decide, by decide⟩) rfl rfl (fun ad9 ow Z9 v9 H locs hq hd => ?_)
  obtain ⟨a, b, had, rfl, rfl⟩ := hq
  have f1 : ad9 0 0 = ad2 0 0 := by rw [← had]; rfl
  rw [← f1] at hl
  change W _ _ _ _ _ _ _ _ _ _ _ _ _ _ _ (F0 m 49 ls [.int 1])
  have hs9 : xn (x_add (x_mk Z 3) 0 n) 2 0 = n + 1 := by show xn (sn _ 2 0 _) 2 0 = n + 1; rw [xn_sn, if_pos ⟨rfl, rfl⟩, mk_xn, ← hsz]; simp
  refine lv_pop hx hb d_KG_key_49 rfl ?_
  refine lv_aload_n hx hb d_KG_key_50 rfl (lv_at hl 0 rfl) ?_
  refine zget hC hd (e_kg hP.kg) rfl i_KG 0 (by decide) q_80 (Or.inl rfl) (v := .ref (ad9 3 0)) rfl d_KG_key_51 ?_
  refine zb_i (r := (nI (n + 1))) hd (zrunV (n := 0) (rest := []) hC hd (e_list hP.l0) rfl (show Met l y_AL_size w_AL_size _ _ (Qd G ad9 ow (x_add (x_mk Z 3) 0 n) (some (.int (nI (n + 1))))) 0 0 (zA G) from by rw [← hs9]; exact c_AL_size l G ad9 ow (x_add (x_mk Z 3) 0 n) 0 hP.l0) q_101 q_102 q_103 q_4 q_104 rfl rfl rfl (by decide +kernel) ⟨by decide, by decide⟩ rfl hl.1 (Nat.le_of_ble_eq_true rfl) d_KG_key_54 ⟨by decide, by decide⟩) (fun H locs hd => ?_)
  refine lv_iconst (v := 1) hx hb d_KG_key_57 (by decide) ?_
  refine zsubN (x := n + 1) (y := 1) (by omega) hx hb d_KG_key_58 ?_
  exact zgi hC hd hr hlk d_KG_key_59 ⟨⟨by rw [← had]; exact e00, by rw [← had]; exact e10, by rw [← had]; exact e12⟩, rfl, rfl⟩ (Nat.le_of_ble_eq_true rfl) (Nat.le_of_ble_eq_true rfl)
set_option maxHeartbeats 4000000 in
theorem c_KG_key_4 (l : Launch) (G : Gt) (ad : Nat → Nat → Nat) (ow : Nat → Nat × Nat) (Z : Zt) (hX : XS Z) (hB : BornPre Z) (hlt : xn Z 0 1 < 40) (ha : AddPre (x_mk Z 4) 0) : Met l y_KG_key w_KG_key ({ frames := 7, cells := 6, slots := 91, locals := 191 }) (zPc G ad ow Z [.ref (ad 0 0), .int 4]) (QK G ad (x_add (x_mk Z 4) 0 (xn Z 0 1)) (some (.int (nI (xn Z 0 1))))) 6 91 (zA G) := by
  refine zopen (cc := b_KG_key) (maxL := 2) (ret := (some FieldType.int)) (by decide) rfl (Nat.le_of_ble_eq_true rfl) ?_
  intro p e s m below meth c ls hC hr hlk hnm hd hl
  have hC : Cx G p c m s _ "KeyGraph" b_KG_key 2 := hC
  have hl : lv_has ls 2 [(0, .ref (ad 0 0)), (1, .int 4)] := hl
  have hx := hC.1
  have hb := hC.2.1
  obtain ⟨hb4, hb7, hraw, h13⟩ := hB
  have hkl := hX.kl
  obtain ⟨n, hn⟩ : ∃ n, n = xn Z 0 1 := ⟨_, rfl⟩
  have hsz : xn Z 2 0 = n := by omega
  rw [← hn]
  have hd : Dy G (ads ad []) ow (srs Z []) s s.heap [] := by rw [ads_nil, srs_nil]; exact hd
  obtain ⟨H, hH⟩ : ∃ q, q = s.heap := ⟨_, rfl⟩
  obtain ⟨locs, hlocs⟩ : ∃ q : List Loc, q = [] := ⟨_, rfl⟩
  rw [← hH, ← hlocs] at hd
  rw [← hH, ← hlocs]
  refine lv_aload_n hx hb d_KG_key_0 rfl (lv_at hl 0 rfl) ?_
  refine zget (ad := (ads ad [])) (o := 0) (i := 0) hC hd (e_kg hX.kg) rfl i_KG 0 (by decide) q_80 (Or.inl rfl) (v := .ref (ad 3 0)) rfl d_KG_key_1 ?_
  refine zb_i (r := (nI n)) hd (zrunV (n := 0) (rest := []) hC hd (e_list hX.l0) rfl (show Met l y_AL_size w_AL_size _ _ (Qd G (ads ad []) ow (srs Z []) (some (.int (nI n)))) 0 0 (zA G) from by rw [← hsz]; exact c_AL_size l G (ads ad []) ow (srs Z []) 0 (show 0 < xn Z 0 3 from hX.l0)) q_101 q_102 q_103 q_4 q_104 rfl rfl rfl (by decide +kernel) ⟨by decide, by decide⟩ rfl hl.1 (Nat.le_of_ble_eq_true rfl) d_KG_key_4 ⟨by decide, by decide⟩) (fun H locs hd => ?_)
  refine lv_bipush (v := 40) hx hb d_KG_key_7 (by decide) ?_
  refine zc_eq (x := n) (y := 40) (tgt := 22) (by omega) (by omega) hx hb d_KG_key_9 (by decide) (fun c9 => absurd c9 (by omega)) (fun c9 => ?_)
  refine lv_iload_n hx hb d_KG_key_12 rfl (lv_at hl 1 rfl) ?_
  refine lv_if_lt (tgt := 22) hx hb d_KG_key_13 (by decide) (fun c => absurd c (by decide)) (fun _ => ?_)
  refine lv_iload_n hx hb d_KG_key_16 rfl (lv_at hl 1 rfl) ?_
  refine lv_bipush (v := 6) hx hb d_KG_key_17 (by decide) ?_
  refine lv_icmp_lt (tgt := 24) hx hb d_KG_key_19 (by decide) (fun _ => ?_) (fun c => absurd c (by decide))
  refine lv_aload_n hx hb d_KG_key_24 rfl (lv_at hl 0 rfl) ?_
  refine zget (ad := (ads ad [])) (o := 0) (i := 0) hC hd (e_kg hX.kg) rfl i_KG 0 (by decide) q_80 (Or.inl rfl) (v := .ref (ad 3 0)) rfl d_KG_key_25 ?_
  refine znew (ci := 1) (ad := (ads ad [])) (rest := [.ref (ad 3 0)]) (fs := [.int 0, .null, .null, .int 0, .long 0, .int 0, .int 0, .int 0, .int 0, .int 0, .int 0, .null, .null, .int 0, .int 0, .int 0, .int 0, .int 0]) hC hd rfl i_Key t_Key t_Key_ok q_105 q_106 q_7 df_Key 0 (show 0 < xn Z 0 13 by omega) (Nat.le_of_ble_eq_true rfl) (Nat.le_of_ble_eq_true rfl) d_KG_key_28 (fun a0 ow H hd => ?_)
  have hd := Dy.norm (A' := [(0, a0)]) (L' := [(0, .inr (1, [.int 0, .null, .null, .int 0, .long 0, .int 0, .int 0, .int 0, .int 0, .int 0, .int 0, .null, .null, .int 0, .int 0, .int 0, .int 0, .int 0]))]) hd rfl rfl
  refine lv_dup hx hb d_KG_key_31 rfl ?_
  refine lv_aload_n hx hb d_KG_key_32 rfl (lv_at hl 0 rfl) ?_
  refine zget (ad := (ads ad [(0, a0)])) (o := 0) (i := 0) hC hd (e_kg hX.kg) rfl i_KG 0 (by decide) q_80 (Or.inl rfl) (v := .ref (ad 3 0)) rfl d_KG_key_33 ?_
  refine zb_i (r := (nI n)) hd (zrunV (n := 0) (rest := [.ref a0, .ref a0, .ref (ad 3 0)]) hC hd (e_list hX.l0) rfl (show Met l y_AL_size w_AL_size _ _ (Qd G (ads ad [(0, a0)]) ow (srs Z [(0, .inr (1, [.int 0, .null, .null, .int 0, .long 0, .int 0, .int 0, .int 0, .int 0, .int 0, .int 0, .null, .null, .int 0, .int 0, .int 0, .int 0, .int 0]))]) (some (.int (nI n)))) 0 0 (zA G) from by rw [← hsz]; exact c_AL_size l G (ads ad [(0, a0)]) ow (srs Z [(0, .inr (1, [.int 0, .null, .null, .int 0, .long 0, .int 0, .int 0, .int 0, .int 0, .int 0, .int 0, .null, .null, .int 0, .int 0, .int 0, .int 0, .int 0]))]) 0 (show 0 < xn Z 0 3 from hX.l0)) q_101 q_102 q_103 q_4 q_104 rfl rfl rfl (by decide +kernel) ⟨by decide, by decide⟩ rfl hl.1 (Nat.le_of_ble_eq_true rfl) d_KG_key_36 ⟨by decide, by decide⟩) (fun H locs hd => ?_)
  refine lv_iload_n hx hb d_KG_key_39 rfl (lv_at hl 1 rfl) ?_
  refine zbackg hd (zrunS (n := 1) (rest := [.int (nI n), .ref a0, .ref a0, .ref (ad 3 0)]) hC hd (c_KG_made_4 l G (ads ad [(0, a0)]) ow (srs Z [(0, .inr (1, [.int 0, .null, .null, .int 0, .long 0, .int 0, .int 0, .int 0, .int 0, .int 0, .int 0, .null, .null, .int 0, .int 0, .int 0, .int 0, .int 0]))]) (show 50 ≤ xn Z 0 13 from h13)) q_239 q_240 q_1 q_241 rfl rfl rfl ⟨by decide, by decide, by decide +kernel⟩ ⟨by decide, by decide⟩ rfl hl.1 (Nat.le_of_ble_eq_true rfl) d_KG_key_40 ⟨by decide, by decide⟩) rfl rfl (fun ad9 ow Z9 v9 H locs hq hd => ?_)
  obtain ⟨b40_a1, rfl, rfl, rfl⟩ := hq
  have hd := Dy.normC (A' := [(0, a0), (1, b40_a1)]) (L' := [(0, .inr (1, [.int 0, .null, .null, .int 0, .long 0, .int 0, .int 0, .int 0, .int 0, .int 0, .int 0, .null, .null, .int 0, .int 0, .int 0, .int 0, .int 0])), (1, .inr (2, [.int 0, .int 0, .long 0, .int 0, .int 1]))]) hd rfl rfl rfl rfl
  change W _ _ _ _ _ _ _ _ _ _ _ _ _ _ _ (F0 m 43 ls [.ref b40_a1, .int (nI n), .ref a0, .ref a0, .ref (ad 3 0)])
  refine zbackg hd (zrunI (n := 2) (rest := [.ref a0, .ref (ad 3 0)]) hC hd (c_Key_init_fn l G (ads ad [(0, a0), (1, b40_a1)]) ow (srs Z [(0, .inr (1, [.int 0, .null, .null, .int 0, .long 0, .int 0, .int 0, .int 0, .int 0, .int 0, .int 0, .null, .null, .int 0, .int 0, .int 0, .int 0, .int 0])), (1, .inr (2, [.int 0, .int 0, .long 0, .int 0, .int 1]))]) (show 50 ≤ xn Z 0 13 from h13) rfl n b40_a1) q_107 q_108 q_7 q_109 rfl rfl rfl rfl ⟨by decide, by decide, by decide +kernel⟩ ⟨by decide, by decide⟩ rfl hl.1 (Nat.le_of_ble_eq_true rfl) d_KG_key_43 ⟨by decide, by decide⟩) rfl rfl (fun ad9 ow Z9 v9 H locs hq hd => ?_)
  obtain ⟨b43_a2, b43_a3, b43_a4, rfl, rfl, rfl⟩ := hq
  have hd := Dy.normC (A' := [(0, a0), (1, b40_a1), (2, b43_a2), (3, b43_a3), (4, b43_a4)]) (L' := [(0, .inr (1, [.int (nI n), .ref b40_a1, .ref b43_a2, .int 0, .long 0, .int 0, .int (-1), .int 0, .int 0, .int 0, .int 0, .ref b43_a3, .ref b43_a4, .int 0, .int 0, .int (-1), .int 0, .int 0])), (1, .inr (2, [.int 0, .int 0, .long 0, .int 0, .int 1])), (2, .inr (8, [.int 0, .ref (ge G), .int 0])), (3, inA (gI G) 8 (fun _ => 0)), (4, inA (gI G) 8 (fun _ => 0))]) hd rfl rfl rfl rfl
  obtain ⟨ow, hd⟩ := Dy.born (ad := ad) (ad1 := (ads ad [(0, a0), (1, b40_a1), (2, b43_a2), (3, b43_a3), (4, b43_a4)])) (Z1 := (srs Z [(0, .inr (1, [.int (nI n), .ref b40_a1, .ref b43_a2, .int 0, .long 0, .int 0, .int (-1), .int 0, .int 0, .int 0, .int 0, .ref b43_a3, .ref b43_a4, .int 0, .int 0, .int (-1), .int 0, .int 0])), (1, .inr (2, [.int 0, .int 0, .long 0, .int 0, .int 1])), (2, .inr (8, [.int 0, .ref (ge G), .int 0])), (3, inA (gI G) 8 (fun _ => 0)), (4, inA (gI G) 8 (fun _ => 0))])) (kd := 4) (a0 := a0) (a1 := b40_a1) (a2 := b43_a2) (a3 := b43_a3) (a4 := b43_a4) hn hX hb4 hb7 hraw h13 (fun o i ho => ads_ne ad _ ho) ⟨rfl, rfl, rfl, rfl⟩ hd rfl rfl rfl rfl rfl rfl (Or.inr ⟨by decide, .inr (2, [.int 0, .int 0, .long 0, .int 0, .int 1]), rfl, mk_fn4 hn⟩) rfl rfl rfl
  have e00 : bornA ad n a0 b40_a1 b43_a2 b43_a3 b43_a4 0 0 = ad 0 0 := rfl
  have e10 : bornA ad n a0 b40_a1 b43_a2 b43_a3 b43_a4 10 0 = ad 10 0 := rfl
  have e12 : bornA ad n a0 b40_a1 b43_a2 b43_a3 b43_a4 12 0 = ad 12 0 := rfl
  have e30 : bornA ad n a0 b40_a1 b43_a2 b43_a3 b43_a4 3 0 = ad 3 0 := by unfold bornA; simp
  have e1n : bornA ad n a0 b40_a1 b43_a2 b43_a3 b43_a4 1 n = a0 := by unfold bornA; simp
  generalize bornA ad n a0 b40_a1 b43_a2 b43_a3 b43_a4 = ad2 at hd e00 e10 e12 e30 e1n
  rw [← e00] at hl
  change W _ _ _ _ _ _ _ _ _ _ _ _ _ _ _ (F0 m 46 ls [.ref a0, .ref (ad 3 0)])
  rw [← e1n, ← e30]
  have hP : XP (x_mk Z 4) := XP.mk hX 4
  have hkn : n < xn (x_mk Z 4) 0 1 := by rw [mk_xn]; simp; omega
  refine zbackg hd (zrunV (n := 1) (rest := []) hC hd (e_list hP.l0) rfl (c_AL_add1 l G ad2 ow (x_mk Z 4) 0 n ha hkn) q_176 q_177 q_178 q_4 q_179 rfl rfl rfl (by decide +kernel) ⟨by decide, by decide⟩ rfl hl.1 (Nat.le_of_ble_eq_true rfl) d_KG_key_46 ⟨by decide, by decide⟩) rfl rfl (fun ad9 ow Z9 v9 H locs hq hd => ?_)
  obtain ⟨a, b, had, rfl, rfl⟩ := hq
  have f1 : ad9 0 0 = ad2 0 0 := by rw [← had]; rfl
  rw [← f1] at hl
  change W _ _ _ _ _ _ _ _ _ _ _ _ _ _ _ (F0 m 49 ls [.int 1])
  have hs9 : xn (x_add (x_mk Z 4) 0 n) 2 0 = n + 1 := by show xn (sn _ 2 0 _) 2 0 = n + 1; rw [xn_sn, if_pos ⟨rfl, rfl⟩, mk_xn, ← hsz]; simp
  refine lv_pop hx hb d_KG_key_49 rfl ?_
  refine lv_aload_n hx hb d_KG_key_50 rfl (lv_at hl 0 rfl) ?_
  refine zget hC hd (e_kg hP.kg) rfl i_KG 0 (by decide) q_80 (Or.inl rfl) (v := .ref (ad9 3 0)) rfl d_KG_key_51 ?_
  refine zb_i (r := (nI (n + 1))) hd (zrunV (n := 0) (rest := []) hC hd (e_list hP.l0) rfl (show Met l y_AL_size w_AL_size _ _ (Qd G ad9 ow (x_add (x_mk Z 4) 0 n) (some (.int (nI (n + 1))))) 0 0 (zA G) from by rw [← hs9]; exact c_AL_size l G ad9 ow (x_add (x_mk Z 4) 0 n) 0 hP.l0) q_101 q_102 q_103 q_4 q_104 rfl rfl rfl (by decide +kernel) ⟨by decide, by decide⟩ rfl hl.1 (Nat.le_of_ble_eq_true rfl) d_KG_key_54 ⟨by decide, by decide⟩) (fun H locs hd => ?_)
  refine lv_iconst (v := 1) hx hb d_KG_key_57 (by decide) ?_
  refine zsubN (x := n + 1) (y := 1) (by omega) hx hb d_KG_key_58 ?_
  exact zgi hC hd hr hlk d_KG_key_59 ⟨⟨by rw [← had]; exact e00, by rw [← had]; exact e10, by rw [← had]; exact e12⟩, rfl, rfl⟩ (Nat.le_of_ble_eq_true rfl) (Nat.le_of_ble_eq_true rfl)
set_option maxHeartbeats 4000000 in
theorem c_KG_key_5 (l : Launch) (G : Gt) (ad : Nat → Nat → Nat) (ow : Nat → Nat × Nat) (Z : Zt) (hX : XS Z) (hB : BornPre Z) (hlt : xn Z 0 1 < 40) (ha : AddPre (x_mk Z 5) 0) : Met l y_KG_key w_KG_key ({ frames := 7, cells := 6, slots := 91, locals := 191 }) (zPc G ad ow Z [.ref (ad 0 0), .int 5]) (QK G ad (x_add (x_mk Z 5) 0 (xn Z 0 1)) (some (.int (nI (xn Z 0 1))))) 6 91 (zA G) := by
  refine zopen (cc := b_KG_key) (maxL := 2) (ret := (some FieldType.int)) (by decide) rfl (Nat.le_of_ble_eq_true rfl) ?_
  intro p e s m below meth c ls hC hr hlk hnm hd hl
  have hC : Cx G p c m s _ "KeyGraph" b_KG_key 2 := hC
  have hl : lv_has ls 2 [(0, .ref (ad 0 0)), (1, .int 5)] := hl
  have hx := hC.1
  have hb := hC.2.1
  obtain ⟨hb4, hb7, hraw, h13⟩ := hB
  have hkl := hX.kl
  obtain ⟨n, hn⟩ : ∃ n, n = xn Z 0 1 := ⟨_, rfl⟩
  have hsz : xn Z 2 0 = n := by omega
  rw [← hn]
  have hd : Dy G (ads ad []) ow (srs Z []) s s.heap [] := by rw [ads_nil, srs_nil]; exact hd
  obtain ⟨H, hH⟩ : ∃ q, q = s.heap := ⟨_, rfl⟩
  obtain ⟨locs, hlocs⟩ : ∃ q : List Loc, q = [] := ⟨_, rfl⟩
  rw [← hH, ← hlocs] at hd
  rw [← hH, ← hlocs]
  refine lv_aload_n hx hb d_KG_key_0 rfl (lv_at hl 0 rfl) ?_
  refine zget (ad := (ads ad [])) (o := 0) (i := 0) hC hd (e_kg hX.kg) rfl i_KG 0 (by decide) q_80 (Or.inl rfl) (v := .ref (ad 3 0)) rfl d_KG_key_1 ?_
  refine zb_i (r := (nI n)) hd (zrunV (n := 0) (rest := []) hC hd (e_list hX.l0) rfl (show Met l y_AL_size w_AL_size _ _ (Qd G (ads ad []) ow (srs Z []) (some (.int (nI n)))) 0 0 (zA G) from by rw [← hsz]; exact c_AL_size l G (ads ad []) ow (srs Z []) 0 (show 0 < xn Z 0 3 from hX.l0)) q_101 q_102 q_103 q_4 q_104 rfl rfl rfl (by decide +kernel) ⟨by decide, by decide⟩ rfl hl.1 (Nat.le_of_ble_eq_true rfl) d_KG_key_4 ⟨by decide, by decide⟩) (fun H locs hd => ?_)
  refine lv_bipush (v := 40) hx hb d_KG_key_7 (by decide) ?_
  refine zc_eq (x := n) (y := 40) (tgt := 22) (by omega) (by omega) hx hb d_KG_key_9 (by decide) (fun c9 => absurd c9 (by omega)) (fun c9 => ?_)
  refine lv_iload_n hx hb d_KG_key_12 rfl (lv_at hl 1 rfl) ?_
  refine lv_if_lt (tgt := 22) hx hb d_KG_key_13 (by decide) (fun c => absurd c (by decide)) (fun _ => ?_)
  refine lv_iload_n hx hb d_KG_key_16 rfl (lv_at hl 1 rfl) ?_
  refine lv_bipush (v := 6) hx hb d_KG_key_17 (by decide) ?_
  refine lv_icmp_lt (tgt := 24) hx hb d_KG_key_19 (by decide) (fun _ => ?_) (fun c => absurd c (by decide))
  refine lv_aload_n hx hb d_KG_key_24 rfl (lv_at hl 0 rfl) ?_
  refine zget (ad := (ads ad [])) (o := 0) (i := 0) hC hd (e_kg hX.kg) rfl i_KG 0 (by decide) q_80 (Or.inl rfl) (v := .ref (ad 3 0)) rfl d_KG_key_25 ?_
  refine znew (ci := 1) (ad := (ads ad [])) (rest := [.ref (ad 3 0)]) (fs := [.int 0, .null, .null, .int 0, .long 0, .int 0, .int 0, .int 0, .int 0, .int 0, .int 0, .null, .null, .int 0, .int 0, .int 0, .int 0, .int 0]) hC hd rfl i_Key t_Key t_Key_ok q_105 q_106 q_7 df_Key 0 (show 0 < xn Z 0 13 by omega) (Nat.le_of_ble_eq_true rfl) (Nat.le_of_ble_eq_true rfl) d_KG_key_28 (fun a0 ow H hd => ?_)
  have hd := Dy.norm (A' := [(0, a0)]) (L' := [(0, .inr (1, [.int 0, .null, .null, .int 0, .long 0, .int 0, .int 0, .int 0, .int 0, .int 0, .int 0, .null, .null, .int 0, .int 0, .int 0, .int 0, .int 0]))]) hd rfl rfl
  refine lv_dup hx hb d_KG_key_31 rfl ?_
  refine lv_aload_n hx hb d_KG_key_32 rfl (lv_at hl 0 rfl) ?_
  refine zget (ad := (ads ad [(0, a0)])) (o := 0) (i := 0) hC hd (e_kg hX.kg) rfl i_KG 0 (by decide) q_80 (Or.inl rfl) (v := .ref (ad 3 0)) rfl d_KG_key_33 ?_
  refine zb_i (r := (nI n)) hd (zrunV (n := 0) (rest := [.ref a0, .ref a0, .ref (ad 3 0)]) hC hd (e_list hX.l0) rfl (show Met l y_AL_size w_AL_size _ _ (Qd G (ads ad [(0, a0)]) ow (srs Z [(0, .inr (1, [.int 0, .null, .null, .int 0, .long 0, .int 0, .int 0, .int 0, .int 0, .int 0, .int 0, .null, .null, .int 0, .int 0, .int 0, .int 0, .int 0]))]) (some (.int (nI n)))) 0 0 (zA G) from by rw [← hsz]; exact c_AL_size l G (ads ad [(0, a0)]) ow (srs Z [(0, .inr (1, [.int 0, .null, .null, .int 0, .long 0, .int 0, .int 0, .int 0, .int 0, .int 0, .int 0, .null, .null, .int 0, .int 0, .int 0, .int 0, .int 0]))]) 0 (show 0 < xn Z 0 3 from hX.l0)) q_101 q_102 q_103 q_4 q_104 rfl rfl rfl (by decide +kernel) ⟨by decide, by decide⟩ rfl hl.1 (Nat.le_of_ble_eq_true rfl) d_KG_key_36 ⟨by decide, by decide⟩) (fun H locs hd => ?_)
  refine lv_iload_n hx hb d_KG_key_39 rfl (lv_at hl 1 rfl) ?_
  refine zbackg hd (zrunS (n := 1) (rest := [.int (nI n), .ref a0, .ref a0, .ref (ad 3 0)]) hC hd (c_KG_made_5 l G (ads ad [(0, a0)]) ow (srs Z [(0, .inr (1, [.int 0, .null, .null, .int 0, .long 0, .int 0, .int 0, .int 0, .int 0, .int 0, .int 0, .null, .null, .int 0, .int 0, .int 0, .int 0, .int 0]))]) (show 50 ≤ xn Z 0 13 from h13)) q_239 q_240 q_1 q_241 rfl rfl rfl ⟨by decide, by decide, by decide +kernel⟩ ⟨by decide, by decide⟩ rfl hl.1 (Nat.le_of_ble_eq_true rfl) d_KG_key_40 ⟨by decide, by decide⟩) rfl rfl (fun ad9 ow Z9 v9 H locs hq hd => ?_)
  obtain ⟨b40_a1, rfl, rfl, rfl⟩ := hq
  have hd := Dy.normC (A' := [(0, a0), (1, b40_a1)]) (L' := [(0, .inr (1, [.int 0, .null, .null, .int 0, .long 0, .int 0, .int 0, .int 0, .int 0, .int 0, .int 0, .null, .null, .int 0, .int 0, .int 0, .int 0, .int 0])), (1, .inr (6, [.int 0, .int 0, .long 0, .int 0]))]) hd rfl rfl rfl rfl
  change W _ _ _ _ _ _ _ _ _ _ _ _ _ _ _ (F0 m 43 ls [.ref b40_a1, .int (nI n), .ref a0, .ref a0, .ref (ad 3 0)])
  refine zbackg hd (zrunI (n := 2) (rest := [.ref a0, .ref (ad 3 0)]) hC hd (c_Key_init_fn l G (ads ad [(0, a0), (1, b40_a1)]) ow (srs Z [(0, .inr (1, [.int 0, .null, .null, .int 0, .long 0, .int 0, .int 0, .int 0, .int 0, .int 0, .int 0, .null, .null, .int 0, .int 0, .int 0, .int 0, .int 0])), (1, .inr (6, [.int 0, .int 0, .long 0, .int 0]))]) (show 50 ≤ xn Z 0 13 from h13) rfl n b40_a1) q_107 q_108 q_7 q_109 rfl rfl rfl rfl ⟨by decide, by decide, by decide +kernel⟩ ⟨by decide, by decide⟩ rfl hl.1 (Nat.le_of_ble_eq_true rfl) d_KG_key_43 ⟨by decide, by decide⟩) rfl rfl (fun ad9 ow Z9 v9 H locs hq hd => ?_)
  obtain ⟨b43_a2, b43_a3, b43_a4, rfl, rfl, rfl⟩ := hq
  have hd := Dy.normC (A' := [(0, a0), (1, b40_a1), (2, b43_a2), (3, b43_a3), (4, b43_a4)]) (L' := [(0, .inr (1, [.int (nI n), .ref b40_a1, .ref b43_a2, .int 0, .long 0, .int 0, .int (-1), .int 0, .int 0, .int 0, .int 0, .ref b43_a3, .ref b43_a4, .int 0, .int 0, .int (-1), .int 0, .int 0])), (1, .inr (6, [.int 0, .int 0, .long 0, .int 0])), (2, .inr (8, [.int 0, .ref (ge G), .int 0])), (3, inA (gI G) 8 (fun _ => 0)), (4, inA (gI G) 8 (fun _ => 0))]) hd rfl rfl rfl rfl
  obtain ⟨ow, hd⟩ := Dy.born (ad := ad) (ad1 := (ads ad [(0, a0), (1, b40_a1), (2, b43_a2), (3, b43_a3), (4, b43_a4)])) (Z1 := (srs Z [(0, .inr (1, [.int (nI n), .ref b40_a1, .ref b43_a2, .int 0, .long 0, .int 0, .int (-1), .int 0, .int 0, .int 0, .int 0, .ref b43_a3, .ref b43_a4, .int 0, .int 0, .int (-1), .int 0, .int 0])), (1, .inr (6, [.int 0, .int 0, .long 0, .int 0])), (2, .inr (8, [.int 0, .ref (ge G), .int 0])), (3, inA (gI G) 8 (fun _ => 0)), (4, inA (gI G) 8 (fun _ => 0))])) (kd := 5) (a0 := a0) (a1 := b40_a1) (a2 := b43_a2) (a3 := b43_a3) (a4 := b43_a4) hn hX hb4 hb7 hraw h13 (fun o i ho => ads_ne ad _ ho) ⟨rfl, rfl, rfl, rfl⟩ hd rfl rfl rfl rfl rfl rfl (Or.inr ⟨by decide, .inr (6, [.int 0, .int 0, .long 0, .int 0]), rfl, mk_fn5 hn⟩) rfl rfl rfl
  have e00 : bornA ad n a0 b40_a1 b43_a2 b43_a3 b43_a4 0 0 = ad 0 0 := rfl
  have e10 : bornA ad n a0 b40_a1 b43_a2 b43_a3 b43_a4 10 0 = ad 10 0 := rfl
  have e12 : bornA ad n a0 b40_a1 b43_a2 b43_a3 b43_a4 12 0 = ad 12 0 := rfl
  have e30 : bornA ad n a0 b40_a1 b43_a2 b43_a3 b43_a4 3 0 = ad 3 0 := by unfold bornA; simp
  have e1n : bornA ad n a0 b40_a1 b43_a2 b43_a3 b43_a4 1 n = a0 := by unfold bornA; simp
  generalize bornA ad n a0 b40_a1 b43_a2 b43_a3 b43_a4 = ad2 at hd e00 e10 e12 e30 e1n
  rw [← e00] at hl
  change W _ _ _ _ _ _ _ _ _ _ _ _ _ _ _ (F0 m 46 ls [.ref a0, .ref (ad 3 0)])
  rw [← e1n, ← e30]
  have hP : XP (x_mk Z 5) := XP.mk hX 5
  have hkn : n < xn (x_mk Z 5) 0 1 := by rw [mk_xn]; simp; omega
  refine zbackg hd (zrunV (n := 1) (rest := []) hC hd (e_list hP.l0) rfl (c_AL_add1 l G ad2 ow (x_mk Z 5) 0 n ha hkn) q_176 q_177 q_178 q_4 q_179 rfl rfl rfl (by decide +kernel) ⟨by decide, by decide⟩ rfl hl.1 (Nat.le_of_ble_eq_true rfl) d_KG_key_46 ⟨by decide, by decide⟩) rfl rfl (fun ad9 ow Z9 v9 H locs hq hd => ?_)
  obtain ⟨a, b, had, rfl, rfl⟩ := hq
  have f1 : ad9 0 0 = ad2 0 0 := by rw [← had]; rfl
  rw [← f1] at hl
  change W _ _ _ _ _ _ _ _ _ _ _ _ _ _ _ (F0 m 49 ls [.int 1])
  have hs9 : xn (x_add (x_mk Z 5) 0 n) 2 0 = n + 1 := by show xn (sn _ 2 0 _) 2 0 = n + 1; rw [xn_sn, if_pos ⟨rfl, rfl⟩, mk_xn, ← hsz]; simp
  refine lv_pop hx hb d_KG_key_49 rfl ?_
  refine lv_aload_n hx hb d_KG_key_50 rfl (lv_at hl 0 rfl) ?_
  refine zget hC hd (e_kg hP.kg) rfl i_KG 0 (by decide) q_80 (Or.inl rfl) (v := .ref (ad9 3 0)) rfl d_KG_key_51 ?_
  refine zb_i (r := (nI (n + 1))) hd (zrunV (n := 0) (rest := []) hC hd (e_list hP.l0) rfl (show Met l y_AL_size w_AL_size _ _ (Qd G ad9 ow (x_add (x_mk Z 5) 0 n) (some (.int (nI (n + 1))))) 0 0 (zA G) from by rw [← hs9]; exact c_AL_size l G ad9 ow (x_add (x_mk Z 5) 0 n) 0 hP.l0) q_101 q_102 q_103 q_4 q_104 rfl rfl rfl (by decide +kernel) ⟨by decide, by decide⟩ rfl hl.1 (Nat.le_of_ble_eq_true rfl) d_KG_key_54 ⟨by decide, by decide⟩) (fun H locs hd => ?_)
  refine lv_iconst (v := 1) hx hb d_KG_key_57 (by decide) ?_
  refine zsubN (x := n + 1) (y := 1) (by omega) hx hb d_KG_key_58 ?_
  exact zgi hC hd hr hlk d_KG_key_59 ⟨⟨by rw [← had]; exact e00, by rw [← had]; exact e10, by rw [← had]; exact e12⟩, rfl, rfl⟩ (Nat.le_of_ble_eq_true rfl) (Nat.le_of_ble_eq_true rfl)
theorem c_KG_key (l : Launch) (G : Gt) (ad : Nat → Nat → Nat) (ow : Nat → Nat × Nat) (Z : Zt) (hX : XS Z) (hB : BornPre Z) (f : Int32) (ha : xn Z 0 1 < 40 → ∀ kd, kd < 6 → AddPre (x_mk Z kd) 0) : Met l y_KG_key w_KG_key ({ frames := 7, cells := 6, slots := 91, locals := 191 }) (zPc G ad ow Z [.ref (ad 0 0), .int f]) (QK G ad (x_keyR Z f).1 (some (.int (x_keyR Z f).2))) 6 91 (zA G) := by
  have hk := hX.kl
  have h40 := hX.k40
  unfold x_keyR
  by_cases h : xn Z 2 0 = 40
  · rw [if_pos h]; exact c_KG_key_no l G ad ow Z hX f (Or.inl h)
  · rw [if_neg h]
    by_cases h1 : f < 0
    · rw [if_pos h1]; exact c_KG_key_no l G ad ow Z hX f (Or.inr (Or.inl h1))
    · rw [if_neg h1]
      by_cases h2 : f < 6
      · rw [if_pos h2]
        obtain ⟨kd, hkd, rfl⟩ := nI_of h1
        have h6 : kd < 6 := (nI_ltI (b := 6) (by omega) (by omega)).mp h2
        rw [nI_clamp hkd]
        have ha' := ha (by omega) kd h6
        match kd, h6, ha' with
        | 0, _, ha => exact c_KG_key_0 l G ad ow Z hX hB (by omega) ha
        | 1, _, ha => exact c_KG_key_1 l G ad ow Z hX hB (by omega) ha
        | 2, _, ha => exact c_KG_key_2 l G ad ow Z hX hB (by omega) ha
        | 3, _, ha => exact c_KG_key_3 l G ad ow Z hX hB (by omega) ha
        | 4, _, ha => exact c_KG_key_4 l G ad ow Z hX hB (by omega) ha
        | 5, _, ha => exact c_KG_key_5 l G ad ow Z hX hB (by omega) ha
        | (q + 6), h, _ => omega
      · rw [if_neg h2]; exact c_KG_key_no l G ad ow Z hX f (Or.inr (Or.inr h2))
