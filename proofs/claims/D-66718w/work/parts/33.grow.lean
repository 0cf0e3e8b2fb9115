section
variable {p : Program} {l : Launch} {e : Env} {R : Room} {s : State} {m : MethodId} {args : Array Value} {below : List Frame} {meth : Method} {c : Code} {H : Heap} {locs : List Loc} {cells slots : Nat} {Q : State → Prop} {cc : ByteArray} {pc nL : Nat} {ls : Array Slot} {rest : List Value} {G : Gt} {ad : Nat → Nat → Nat} {ow : Nat → Nat × Nat} {Z Z' : Zt} {own : String}
theorem zcopy (hC : Cx G p c m s args own cc nL) (hd : Dy G ad ow Z s H locs) (hls : ls.size = nL) {o i n0 o1 i1 n1 index : Nat} {f g : Nat → Option Nat} (he0 : ent G ad Z o i = some (rfA (gO G) n0 f)) (he1 : ent G ad Z o1 i1 = some (rfA (gO G) n1 g)) {sp dp n : Int32} (h1 : ¬ sp < 0) (h2 : ¬ dp < 0) (h3 : ¬ n < 0) (h4 : sp.toNatClampNeg + n.toNatClampNeg ≤ n0) (h5 : dp.toNatClampNeg + n.toNatClampNeg ≤ n1)
    (hel : ∀ j : Nat, j < n.toNatClampNeg → ∀ y : Nat, f (sp.toNatClampNeg + j) = some y → ∃ k fs, y = ad 1 k ∧ ent G ad Z 1 k = some (.inr (1, fs))) (hU : Up G ad Z Z' o1 i1 (rfA (gO G) n1 (va_cpy f g sp.toNatClampNeg dp.toNatClampNeg n.toNatClampNeg)))
    (hlink : Cond.methodLink own index arraycopyName ∈ TT) (hnat : Cond.native arraycopyName ∈ TT) (hstat : Cond.static arraycopyName ∈ TT) (hini : Cond.initialized "java/lang/System" ∈ TT) (hframes : 1 ≤ R.frames) (hlocals : (rest.map fun v => v.category).sum + (nativeFrameWords "java/lang/System" "arraycopy" 5 + 11) ≤ R.locals) (hdg : decode cc pc = .ok (.invokestatic index, 3))
    (kk : ∀ (H1 : Heap) (locs1 : List Loc), Dy G ad ow Z' s H1 locs1 → W p l e R s m args below meth c H1 locs1 cells slots Q (F0 m (pc + 3) ls rest)) : W p l e R s m args below meth c H locs cells slots Q (F0 m pc ls (.int n :: .int dp :: .ref (ad o1 i1) :: .int sp :: .ref (ad o i) :: rest)) := by
  have nn : ∀ z : Int32, ¬ z < 0 → z.toInt = (z.toNatClampNeg : Int) := by
    intro z hz
    have hz0 : (0 : Int) ≤ z.toInt := by
      have := Int32.not_lt.mp hz
      simpa using Int32.le_iff_toInt_le.mp this
    show z.toInt = ((z.toInt.toNat : Nat) : Int)
    omega
  have hK := hC.2.2.2.2.2.1
  have hts := hC.2.2.2.2.1
  have hca : va_Nw (.castable "KeyGraph$Key" "java/lang/Object") s := hC.2.2.2.2.2.2.1 _ z_894
  obtain ⟨c0', t1, f1, f2, f3⟩ := Cond.castable_spec (va_Nw.use (A := args) rfl hca)
  intro T hT X
  have hc0 : H[ad o i]? = some (vp_cell (gO G) (n0, .inr (.inr (.inr (.inr f))))) := (hd.1 o i _ he0).1
  have hc1 : H[ad o1 i1]? = some (vp_cell (gO G) (n1, .inr (.inr (.inr (.inr g))))) := (hd.1 o1 i1 _ he1).1
  obtain ⟨-, k0, hk0, cm0, hkk0⟩ := (hK.2 3 _ rfl).1 n0 (fun j => va_rf (f j))
  obtain ⟨-, k1, hk1, cm1, hkk1⟩ := (hK.2 3 _ rfl).1 n1 (fun j => va_rf (g j))
  obtain ⟨vm', X', step⟩ := X.arraycopy hC.1 hC.2.2.2.1 (hts _ hlink) (hts _ hnat) (hts _ hstat) (hts _ hini) (src := ad o i) (dst := ad o1 i1) (cs := vp_cell (gO G) (n0, .inr (.inr (.inr (.inr f))))) (cd := vp_cell (gO G) (n1, .inr (.inr (.inr (.inr g))))) (srcPos := sp) (destPos := dp) (n := n) (by rw [hT]; exact hc0) (by rw [hT]; exact hc1)
    (fun _ h => by cases h) (fun _ h => by cases h) (fun h => by cases h) (fun h => by cases h) hk0 hk1 hkk0 hkk1 rfl h1 h2 h3
    (by rw [nn sp h1, nn n h3]; show ¬ _ > ((arrV (gO G) n0 (fun j => va_rf (f j))).slots.size : Int); rw [arrV_size]; omega)
    (by rw [nn dp h2, nn n h3]; show ¬ _ > ((arrV (gO G) n1 (fun j => va_rf (g j))).slots.size : Int); rw [arrV_size]; omega)
    (fun vm₁ hal i9 hi => by
      have e : (vp_cell (gO G) (n0, .inr (.inr (.inr (.inr f))))).slots.getD (sp.toNatClampNeg + i9) .null = va_rf (f (sp.toNatClampNeg + i9)) := by
        show (arrV (gO G) n0 (fun j => va_rf (f j))).slots.getD _ _ = _
        rw [Array.getD_eq_getD_getElem?, arrV_read _ _ (by omega)]
        rfl
      rw [e]
      cases hy : f (sp.toNatClampNeg + i9) with
      | none => exact ⟨rfl, trivial⟩
      | some y =>
        obtain ⟨kq, fs, rfl, hv⟩ := hel i9 hi y hy
        obtain ⟨cellV, g1, g2, g3⟩ := va_recv (q := ("KeyGraph$Key", F_Key, 18)) hK (hd.1.one hv) rfl (q0 := 0) rfl
        obtain ⟨kA, comp, r1, r2, r3, -⟩ := (hK.2 3 _ rfl).2
        cases hk1.symm.trans r1
        cases hkk1.symm.trans r2
        obtain ⟨kE, hkE, -⟩ := Vm.findClass_spec r3
        obtain ⟨kC, hkC, -⟩ := Vm.findClass_spec g3
        obtain ⟨kC', hkC', -⟩ := hal.2.2 _ _ hkC
        obtain ⟨kE', hkE', -⟩ := hal.2.2 _ _ hkE
        cases g3.symm.trans f1
        cases r3.symm.trans f2
        refine ⟨rfl, cellV, (show T.heap[ad 1 kq]? = some cellV by rw [hT]; exact g1), (fun q h => by rw [h] at g2; cases g2), ⟨kC', hkC'⟩, ?_, ?_⟩
        · exact ⟨kE', hkE'⟩
        · show vm₁.assignable _ _ = true
          rw [hal.assignable]
          exact f3)
    (g := F0 m pc ls (.int n :: .int dp :: .ref (ad o1 i1) :: .int sp :: .ref (ad o i) :: rest)) rfl (by rw [hC.2.2.1]; exact hls) (rest := rest) rfl (by rw [hC.2.1]; exact hdg) hframes (by show 2 * 0 + _ + _ ≤ _; omega)
  have e1 : copied (vp_cell (gO G) (n0, .inr (.inr (.inr (.inr f))))) (vp_cell (gO G) (n1, .inr (.inr (.inr (.inr g))))) sp dp n = vp_cell (gO G) (n1, .inr (.inr (.inr (.inr (va_cpy f g sp.toNatClampNeg dp.toNatClampNeg n.toNatClampNeg))))) := by
    rw [vp_cell_q, vp_cell_q, vp_cell_q]
    exact va_copied (fun z => va_rf z) (gO G) (gO G) f g h4
  rw [e1] at X' step
  have hl : ad o1 i1 < H.size := (Array.getElem?_eq_some_iff.mp hc1).1
  have hheap : ((T.setVm vm').setCell (ad o1 i1) (vp_cell (gO G) (n1, .inr (.inr (.inr (.inr (va_cpy f g sp.toNatClampNeg dp.toNatClampNeg n.toNatClampNeg))))))).heap = H.setIfInBounds (ad o1 i1) (vp_cell (gO G) (n1, .inr (.inr (.inr (.inr (va_cpy f g sp.toNatClampNeg dp.toNatClampNeg n.toNatClampNeg)))))) := by rw [← hT]; rfl
  have oq : ∀ q : Nat, q ≠ ad o1 i1 → (H.setIfInBounds (ad o1 i1) (vp_cell (gO G) (n1, .inr (.inr (.inr (.inr (va_cpy f g sp.toNatClampNeg dp.toNatClampNeg n.toNatClampNeg)))))))[q]? = H[q]? := fun q hq => by simp [Array.getElem?_setIfInBounds, Ne.symm hq]
  have hgb := (hd.1 o1 i1 _ he1).2.1
  obtain ⟨t, a1, b1⟩ := kk _ _ ⟨hd.1.set he1 hU (show (H.setIfInBounds (ad o1 i1) _)[ad o1 i1]? = some _ by simp [Array.getElem?_setIfInBounds, hl]) oq, ⟨by simp; exact hd.2.1.1, fun q g1 g2 => by
      rw [oq q (fun e => g2 (by rw [e]; exact hgb))]
      exact hd.2.1.2.1 q g1 g2, fun q hq => by
      rcases List.mem_append.mp hq with h | h
      · exact hd.2.1.2.2 q h
      · obtain ⟨z, -, hz⟩ := List.mem_map.mp h
        rw [← hz]
        exact hgb⟩, hd.2.2⟩ _ hheap X'
  exact ⟨t, step t a1, b1⟩
theorem zgetC (hC : Cx G p c m s args own cc nL) (hd : Dy G ad ow Z s H locs) (hls : ls.size = nL) {o i n0 index : Nat} {f : Nat → Option Nat} (he0 : ent G ad Z o i = some (rfA (gO G) n0 f)) (hlink : Cond.methodLink own index y_Obj_getClass ∈ TT) (hframes : 1 ≤ R.frames) (hlocals : (rest.map fun v => v.category).sum + 14 ≤ R.locals) (hdg : decode cc pc = .ok (.invokevirtual index, 3))
    (kk : W p l e R s m args below meth c H locs cells slots Q (F0 m (pc + 3) ls (.ref (gm G) :: rest))) : W p l e R s m args below meth c H locs cells slots Q (F0 m pc ls (.ref (ad o i) :: rest)) := by
  obtain ⟨-, -, -, -, -, hNm⟩ := (hC.2.2.2.2.2.1.2 3 _ rfl).2
  exact va_getC (C := "[Ljava/lang/Object;") hC.1 hC.2.1 (by rw [hls]; exact hC.2.2.1) hC.2.2.2.1 (hC.2.2.2.2.1 _ hlink) (va_Nw.use rfl (hC.2.2.2.2.2.2.1 _ z_890)) (hC.2.2.2.2.1 _ q_889) (hC.2.2.2.2.1 _ q_206) (hC.2.2.2.2.1 _ q_220) hC.2.2.2.2.2.2.2.2.2.2.2.2.1 ⟨_, (hd.1 o i _ he0).1, rfl, hNm⟩ hframes hlocals hdg kk
theorem zldcM (hC : Cx G p c m s args own cc nL) {index : Nat} (hlink : Cond.classLink own index "[Ljava/lang/Object;" ∈ TT) (hdg : decode cc pc = .ok (.ldc index, 2))
    (kk : W p l e R s m args below meth c H locs cells slots Q (F0 m (pc + 2) ls (.ref (gm G) :: rest))) : W p l e R s m args below meth c H locs cells slots Q (F0 m pc ls rest) :=
  va_ldcM hC.1 hC.2.1 hC.2.2.2.1 (hC.2.2.2.2.1 _ hlink) hC.2.2.2.2.2.2.2.2.2.2.2.2.1 hdg kk
theorem zmax (hC : Cx G p c m s args own cc nL) (hls : ls.size = nL) {index : Nat} {x y r : Int32} (hr : (if x < y then y else x) = r) (hlink : Cond.methodLink own index Lib.Math.max.name ∈ TT) (hframes : 1 ≤ R.frames) (hlocals : (rest.map fun v => v.category).sum + 13 ≤ R.locals) (hc : cells ≤ R.cells) (hs : slots ≤ R.slots) (hdg : decode cc pc = .ok (.invokestatic index, 3))
    (kk : W p l e R s m args below meth c H locs cells slots Q (F0 m (pc + 3) ls (.int r :: rest))) : W p l e R s m args below meth c H locs cells slots Q (F0 m pc ls (.int y :: .int x :: rest)) := by
  subst hr
  exact va_mmax hC.1 hC.2.1 (by rw [hls]; exact hC.2.2.1) hC.2.2.2.1 (hC.2.2.2.2.1 _ hlink) (hC.2.2.2.2.1 _ q_196) (hC.2.2.2.2.1 _ q_9) (hC.2.2.2.2.1 _ q_197) hframes hlocals hc hs hdg kk
theorem zmin (hC : Cx G p c m s args own cc nL) (hls : ls.size = nL) {index : Nat} {x y r : Int32} (hr : (if y < x then y else x) = r) (hlink : Cond.methodLink own index Lib.Math.min.name ∈ TT) (hframes : 1 ≤ R.frames) (hlocals : (rest.map fun v => v.category).sum + 13 ≤ R.locals) (hc : cells ≤ R.cells) (hs : slots ≤ R.slots) (hdg : decode cc pc = .ok (.invokestatic index, 3))
    (kk : W p l e R s m args below meth c H locs cells slots Q (F0 m (pc + 3) ls (.int r :: rest))) : W p l e R s m args below meth c H locs cells slots Q (F0 m pc ls (.int y :: .int x :: rest)) := by
  subst hr
  exact va_mmin hC.1 hC.2.1 (by rw [hls]; exact hC.2.2.1) hC.2.2.2.1 (hC.2.2.2.2.1 _ hlink) (hC.2.2.2.2.1 _ q_228) (hC.2.2.2.2.1 _ q_9) (hC.2.2.2.2.1 _ q_229) hframes hlocals hc hs hdg kk
/-- the array that is grown: length 0, ArrayList's own empty one -/
theorem zalenE (hC : Cx G p c m s args own cc nL) (hd : Dy G ad ow Z s H locs) (hdg : decode cc pc = .ok (.arraylength, 1))
    (kk : W p l e R s m args below meth c H locs cells slots Q (F0 m (pc + 1) ls (.int 0 :: rest))) : W p l e R s m args below meth c H locs cells slots Q (F0 m pc ls (.ref (ge G) :: rest)) := by
  obtain ⟨cell, h1, h2, h3, h4, h5, h6, h7⟩ := hC.2.2.2.2.2.2.2.2.2.1
  exact W.alen hC.1 hC.2.1 (by rw [hd.2.1.2.1 _ (Array.getElem?_eq_some_iff.mp h1).1 h7]; exact h1) h2 h5 rfl rfl hdg kk
/-- the list's array becomes the one that was made -/
theorem zputE (hC : Cx G p c m s args own cc nL) (hd : Dy G ad ow Z s H locs) {i r n index : Nat} {f : Nat → Option Nat} (hi : i < xn Z 0 3) (hr : r < xn Z 0 13) (hi4 : i < xn Z 0 4) (he : xr Z r = some (rfA (gO G) n f)) (hf : f = elemF ad Z i) (hn0 : n ≠ 0) (hlink : Cond.fieldLink own index "java/util/ArrayList" "elementData" "[Ljava/lang/Object;" ∈ TT) (hdg : decode cc pc = .ok (.putfield index, 3))
    (kk : ∀ (ow : Nat → Nat × Nat) (H1 : Heap) (locs1 : List Loc), Dy G (upA ad 4 i (ad 13 r)) ow (sr (sn Z 3 i n) r none) s H1 locs1 → W p l e R s m args below meth c H1 locs1 cells slots Q (F0 m (pc + 3) ls rest)) : W p l e R s m args below meth c H locs cells slots Q (F0 m pc ls (.ref (ad 13 r) :: .ref (ad 3 i) :: rest)) := by
  obtain ⟨hexec, hb, -, hown, hts, hK, -⟩ := hC
  have hc : cls[8]? = some ("java/util/ArrayList", F_AL, 3) := rfl
  have he3 := e_list (G := G) (ad := ad) hi
  have he13 := e_raw (G := G) (ad := ad) hr he
  have hap := va_apart (own := own) hts i_AL t_AL t_AL_ok n_AL hK hc
  obtain ⟨r9, h1, cell, q1, q2, q3, q4⟩ := (hd.1 3 i _ he3).1
  have hr9 : r9 = ("java/util/ArrayList", F_AL, 3) := Option.some.inj (h1.symm.trans hc)
  subst hr9
  obtain ⟨hS, hfc, kC, hkC, hkind⟩ := hK.1 8 _ hc
  obtain ⟨cf, kf, fi, f9, hi9, hsl⟩ := hS 1 (by decide)
  have hlay := hts _ (i_AL _ (u_in_lay (k := 1) (by decide)))
  unfold u_lay at hlay
  rw [if_neg (by decide)] at hlay
  have hst := (u_facts hfc hkC (u_lays hts i_AL (k := 1) (by decide)) hi9).1
  have h6 := u_store hfc hkC hkind hlay hi9 (t_AL_ok 1 (by decide)) (v := .ref (ad 13 r)) rfl rfl
  refine W.putK hexec hb (f := f9) ⟨hown, hts _ hlink, ⟨_, _, _, hi9⟩, hst⟩ (by rw [q2]; exact h6) q1 q3 (by rw [hsl]; exact k2_hasslot (q4 1 (by decide))) rfl rfl hdg fun H' e1 e2 e3 => ?_
  rw [hsl] at e1 ⊢
  have hn13 := hd.1 13 r _ he13
  have hn3 := hd.1 3 i _ he3
  have hne : ad 13 r ≠ ad 3 i := fun z => by have := hn13.2.2; rw [z, hn3.2.2] at this; cases this
  refine kk (fun q => if q = ad 13 r then (4, i) else ow q) H' _ ⟨?_, hd.2.1.put e2 e3 hn3.2.1, hd.2.2⟩
  intro o j e he'
  -- an entity of the new naming
  have hold : ∀ (o0 i0 : Nat) (e0 : va_E), ent G ad Z o0 i0 = some e0 → ¬ (o0 = 3 ∧ i0 = i) → ¬ (o0 = 13 ∧ i0 = r) → va_at (gD G) cls (ad o0 i0, e0) H' ∧ gb G ≤ ad o0 i0 ∧ (if ad o0 i0 = ad 13 r then (4, i) else ow (ad o0 i0)) = (o0, i0) := by
    intro o0 i0 e0 h0 hn hn2
    have h9 := hd.1 o0 i0 e0 h0
    refine ⟨h9.1.kept (e3 _ fun z => hn ?_), h9.2.1, ?_⟩
    · have z1 := h9.2.2
      have z3 : ad o0 i0 = ad 3 i := z
      rw [z3, hn3.2.2] at z1
      cases z1
      exact ⟨rfl, rfl⟩
    · rw [if_neg]
      · exact h9.2.2
      · intro z
        have z1 := h9.2.2
        rw [z, hn13.2.2] at z1
        cases z1
        exact hn2 ⟨rfl, rfl⟩
  have hup : ∀ (o0 i0 : Nat), ¬ (o0 = 4 ∧ i0 = i) → upA ad 4 i (ad 13 r) o0 i0 = ad o0 i0 := fun o0 i0 hq => upA_ne ad hq
  by_cases h3 : o = 3 ∧ j = i
  · obtain ⟨rfl, rfl⟩ := h3
    rw [e_list (show j < xn (sr (sn Z 3 j n) r none) 0 3 from hi)] at he'
    cases he'
    rw [hup 3 j (fun z => absurd z.1 (by decide))]
    refine ⟨⟨_, hc, t_OB.to (V := updV (vp_V (listF G ad Z j)) 1 (.ref (ad 13 r))) ⟨_, e1, q2, q3, t_set q4 hap (by decide) (.ref (ad 13 r))⟩ (fun x hx => ?_)⟩, hn3.2.1, ?_⟩
    · have hv := vp_updV_set (fs := listF G ad Z j) (k := 1) (show 1 < 3 by decide) (.ref (ad 13 r)) x
      refine hv.trans ?_
      simp only [listF, xn_sr, xn_sn, xi_sr, xi_sn, List.set]
      simp only [upA_self, and_self, if_true, if_neg hn0]
      simp
    · show (if ad 3 j = ad 13 r then _ else _) = _
      rw [if_neg (fun z => hne z.symm)]
      exact hn3.2.2
  · by_cases h4 : o = 4 ∧ j = i
    · obtain ⟨rfl, rfl⟩ := h4
      rw [e_elem (show j < xn (sr (sn Z 3 j n) r none) 0 4 from hi4) (show xn (sr (sn Z 3 j n) r none) 3 j ≠ 0 by rw [xn_sr, xn_sn, if_pos ⟨rfl, rfl⟩]; exact hn0)] at he'
      cases he'
      rw [upA_self]
      refine ⟨?_, hn13.2.1, if_pos rfl⟩
      have h9 := hn13.1.kept (e3 _ hne)
      rw [hf] at h9
      have e7 : xn (sr (sn Z 3 j n) r none) 3 j = n := by rw [xn_sr, xn_sn, if_pos ⟨rfl, rfl⟩]
      rw [e7]
      exact h9
    · by_cases h13 : o = 13 ∧ j = r
      · obtain ⟨rfl, rfl⟩ := h13
        exfalso
        have : ent G (upA ad 4 i (ad 13 j)) (sr (sn Z 3 i n) j none) 13 j = none := by
          show (if j < xn Z 0 13 then xr (sr (sn Z 3 i n) j none) j else none) = none
          rw [if_pos hr, xr_sr, if_pos rfl]
        rw [this] at he'
        cases he'
      · rw [hup o j h4]
        refine hold o j e ?_ h3 h13
        rw [← he']
        match o, h3, h4, h13 with
        | 0, _, _, _ => rfl
        | 1, _, _, _ => rfl
        | 2, _, _, _ => rfl
        | 3, h3, _, _ =>
          have hj : ¬ j = i := fun z => h3 ⟨rfl, z⟩
          simp only [ent, listF, xn_sr, xn_sn, xi_sr, xi_sn, hj, and_false, if_false]
          rw [hup 4 j (fun z => hj z.2)]
          rfl
        | 4, _, h4, _ =>
          have hj : ¬ j = i := fun z => h4 ⟨rfl, z⟩
          simp only [ent, xn_sr, xn_sn, hj, and_false, if_false]
          rfl
        | 5, _, _, _ => rfl
        | 6, _, _, _ => rfl
        | 7, _, _, _ => rfl
        | 8, _, _, _ => rfl
        | 9, _, _, _ => rfl
        | 10, _, _, _ => rfl
        | 11, _, _, _ => rfl
        | 12, _, _, _ => rfl
        | 13, _, _, h13 =>
          have hj : ¬ j = r := fun z => h13 ⟨rfl, z⟩
          simp only [ent, xr_sr, xr_sn, hj, if_false, xn_sr, xn_sn]
          rfl
        | (k + 14), _, _, _ => rfl
end
