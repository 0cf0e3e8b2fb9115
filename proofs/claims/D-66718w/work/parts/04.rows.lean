section
variable {p : Program} {l : Launch} {e : Env} {R : Room} {s : State} {m : MethodId} {args : Array Value} {below : List Frame} {meth : Method} {c : Code} {H : Heap} {locs : List Loc} {cells slots : Nat} {Q : State → Prop} {cc : ByteArray} {pc nL : Nat} {ls : Array Slot} {rest : List Value} {G : Gt} {ad : Nat → Nat → Nat} {ow : Nat → Nat × Nat} {Z Z' : Zt} {own : String}
theorem zsame (hC : Cx G p c m s args own cc nL) {ref O n d : String} (h : ref = O ∨ Cond.sameField ref O n d ∈ TT) : ∀ x, s.fieldFound? O n d = some x → s.fieldFound? ref n d = some x := by
  rcases h with rfl | h
  · exact fun x h => h
  · exact fun x h9 => u_same (hC.2.2.2.2.1 _ h) x h9
theorem zget (hC : Cx G p c m s args own cc nL) (hd : Dy G ad ow Z s H locs) {o i ci : Nat} {fs : List Value} (he : ent G ad Z o i = some (.inr (ci, fs))) {C : String} {T : u_T} {N : Nat} (hc : cls[ci]? = some (C, T, N)) (hin : ∀ w ∈ u_ws C T N, w ∈ TT) (k : Nat) (hk : k < N) {ref : String} {index : Nat} (hlink : Cond.fieldLink own index ref (T k).2.1 (T k).2.2.1 ∈ TT) (hsame : ref = (T k).1 ∨ Cond.sameField ref (T k).1 (T k).2.1 (T k).2.2.1 ∈ TT) {v : Value} (hv : fs[k]? = some v) (hdg : decode cc pc = .ok (.getfield index, 3))
    (kk : W p l e R s m args below meth c H locs cells slots Q (F0 m (pc + 3) ls (v :: rest))) : W p l e R s m args below meth c H locs cells slots Q (F0 m pc ls (.ref (ad o i) :: rest)) :=
  va_get (D := gD G) (cl := cls) (tys := tys G) hC.1 hC.2.1 hC.2.2.2.2.1 hin hC.2.2.2.1 hC.2.2.2.2.2.1 (hd.1.one he) 0 rfl hc k hk (hC.2.2.2.2.1 _ hlink) (zsame hC hsame) hv hdg kk
theorem zgetN (hC : Cx G p c m s args own cc nL) (hd : Dy G ad ow Z s H locs) {o i ci : Nat} {fs : List Value} (he : ent G ad Z o i = some (.inr (ci, fs))) {C : String} {T : u_T} {N : Nat} (hc : cls[ci]? = some (C, T, N)) (hin : ∀ w ∈ u_ws C T N, w ∈ TT) (k : Nat) (hk : k < N) {ref host : String} {index : Nat} (hlink : Cond.fieldLinkNest own index ref (T k).2.1 (T k).2.2.1 host ∈ NW) (hsame : ref = (T k).1 ∨ Cond.sameField ref (T k).1 (T k).2.1 (T k).2.2.1 ∈ TT) {v : Value} (hv : fs[k]? = some v) (hdg : decode cc pc = .ok (.getfield index, 3))
    (kk : W p l e R s m args below meth c H locs cells slots Q (F0 m (pc + 3) ls (v :: rest))) : W p l e R s m args below meth c H locs cells slots Q (F0 m pc ls (.ref (ad o i) :: rest)) :=
  va_getN (D := gD G) (cl := cls) (tys := tys G) hC.1 hC.2.1 hC.2.2.2.2.1 hin hC.2.2.2.1 hC.2.2.2.2.2.1 (hd.1.one he) 0 rfl hc k hk (va_Nw.use rfl (hC.2.2.2.2.2.2.1 _ hlink)) (zsame hC hsame) hv hdg kk
theorem zput (hC : Cx G p c m s args own cc nL) (hd : Dy G ad ow Z s H locs) {o i ci : Nat} {fs : List Value} (he : ent G ad Z o i = some (.inr (ci, fs))) {C : String} {T : u_T} {N : Nat} (hc : cls[ci]? = some (C, T, N)) (hin : ∀ w ∈ u_ws C T N, w ∈ TT) (ty0 : Nat → FieldType) (hty : ∀ k, k < N → parseFieldDescriptor (T k).2.2.1 = some (ty0 k)) (hnm : ∀ a, a < N → ∀ b, b < N → a ≠ b → (T a).2.1 ≠ (T b).2.1) (k : Nat) (hk : k < N) {ref : String} {index : Nat} (hlink : Cond.fieldLink own index ref (T k).2.1 (T k).2.2.1 ∈ TT) (hsame : ref = (T k).1 ∨ Cond.sameField ref (T k).1 (T k).2.1 (T k).2.2.1 ∈ TT) (hfin : (T k).2.2.2 = false) {v : Value} (hn : narrow (ty0 k) v = v) (hfit : fits (ty0 k) v = true) (hl : k < fs.length) (hU : Up G ad Z Z' o i (.inr (ci, fs.set k v))) (hdg : decode cc pc = .ok (.putfield index, 3))
    (kk : ∀ (H1 : Heap) (locs1 : List Loc), Dy G ad ow Z' s H1 locs1 → W p l e R s m args below meth c H1 locs1 cells slots Q (F0 m (pc + 3) ls rest)) : W p l e R s m args below meth c H locs cells slots Q (F0 m pc ls (v :: .ref (ad o i) :: rest)) := by
  obtain ⟨hexec, hb, -, hown, hts, hK, -⟩ := hC
  have hap := va_apart (own := own) hts hin ty0 hty hnm hK hc
  obtain ⟨r, h1, cell, q1, q2, q3, q4⟩ := (hd.1 o i _ he).1
  have hr : r = (C, T, N) := Option.some.inj (h1.symm.trans hc)
  subst hr
  obtain ⟨hS, hfc, kC, hkC, hkind⟩ := hK.1 ci _ hc
  obtain ⟨cf, kf, fi, f, hi, hsl⟩ := hS k hk
  have hlay := hts _ (hin _ (u_in_lay hk))
  unfold u_lay at hlay
  rw [if_neg (by rw [hfin]; decide)] at hlay
  have hst := (u_facts hfc hkC (u_lays hts hin hk) hi).1
  have h6 := u_store hfc hkC hkind hlay hi (hty k hk) hn hfit
  have hsm : ∀ x, s.fieldFound? (T k).1 (T k).2.1 (T k).2.2.1 = some x → s.fieldFound? ref (T k).2.1 (T k).2.2.1 = some x := by
    rcases hsame with rfl | h
    · exact fun x h => h
    · exact fun x h9 => u_same (hts _ h) x h9
  refine W.putK hexec hb (f := f) ⟨hown, hts _ hlink, ⟨_, _, _, hsm _ hi⟩, hst⟩ (by rw [q2]; exact h6) q1 q3 (by rw [hsl]; exact k2_hasslot (q4 k hk)) rfl rfl hdg fun H' e1 e2 e3 => ?_
  rw [hsl] at e1 ⊢
  exact kk H' _ (hd.set he hU e2 ⟨_, hc, t_OB.to (V := updV (vp_V fs) k v) ⟨_, e1, q2, q3, t_set q4 hap hk v⟩ (fun j _ => vp_updV_set hl v j)⟩ e3)
theorem zputN (hC : Cx G p c m s args own cc nL) (hd : Dy G ad ow Z s H locs) {o i ci : Nat} {fs : List Value} (he : ent G ad Z o i = some (.inr (ci, fs))) {C : String} {T : u_T} {N : Nat} (hc : cls[ci]? = some (C, T, N)) (hin : ∀ w ∈ u_ws C T N, w ∈ TT) (ty0 : Nat → FieldType) (hty : ∀ k, k < N → parseFieldDescriptor (T k).2.2.1 = some (ty0 k)) (hnm : ∀ a, a < N → ∀ b, b < N → a ≠ b → (T a).2.1 ≠ (T b).2.1) (k : Nat) (hk : k < N) {ref host : String} {index : Nat} (hlink : Cond.fieldLinkNest own index ref (T k).2.1 (T k).2.2.1 host ∈ NW) (hsame : ref = (T k).1) (hfin : (T k).2.2.2 = false) {v : Value} (hn : narrow (ty0 k) v = v) (hfit : fits (ty0 k) v = true) (hl : k < fs.length) (hU : Up G ad Z Z' o i (.inr (ci, fs.set k v))) (hdg : decode cc pc = .ok (.putfield index, 3))
    (kk : ∀ (H1 : Heap) (locs1 : List Loc), Dy G ad ow Z' s H1 locs1 → W p l e R s m args below meth c H1 locs1 cells slots Q (F0 m (pc + 3) ls rest)) : W p l e R s m args below meth c H locs cells slots Q (F0 m pc ls (v :: .ref (ad o i) :: rest)) := by
  obtain ⟨hexec, hb, -, hown, hts, hK, hNW, -⟩ := hC
  have hap := va_apart (own := own) hts hin ty0 hty hnm hK hc
  obtain ⟨r, h1, cell, q1, q2, q3, q4⟩ := (hd.1 o i _ he).1
  have hr : r = (C, T, N) := Option.some.inj (h1.symm.trans hc)
  subst hr
  obtain ⟨hS, hfc, kC, hkC, hkind⟩ := hK.1 ci _ hc
  obtain ⟨cf, kf, fi, f, hi, hsl⟩ := hS k hk
  have hlay := hts _ (hin _ (u_in_lay hk))
  unfold u_lay at hlay
  rw [if_neg (by rw [hfin]; decide)] at hlay
  have hst := (u_facts hfc hkC (u_lays hts hin hk) hi).1
  have h6 := u_store hfc hkC hkind hlay hi (hty k hk) hn hfit
  subst hsame
  refine va_WputK hexec hb (f := f) hown (va_Nw.use rfl (hNW _ hlink)) hi hst (by rw [q2]; exact h6) q1 q3 (by rw [hsl]; exact k2_hasslot (q4 k hk)) rfl rfl hdg fun H' e1 e2 e3 => ?_
  rw [hsl] at e1 ⊢
  exact kk H' _ (hd.set he hU e2 ⟨_, hc, t_OB.to (V := updV (vp_V fs) k v) ⟨_, e1, q2, q3, t_set q4 hap hk v⟩ (fun j _ => vp_updV_set hl v j)⟩ e3)
theorem ziald (hC : Cx G p c m s args own cc nL) (hd : Dy G ad ow Z s H locs) {o i n : Nat} {f : Nat → Int32} (he : ent G ad Z o i = some (inA (gI G) n f)) {x : Int32} (hin : vp_in x n) (hdg : decode cc pc = .ok (.iaload, 1))
    (kk : W p l e R s m args below meth c H locs cells slots Q (F0 m (pc + 1) ls (.int (f x.toNatClampNeg) :: rest))) : W p l e R s m args below meth c H locs cells slots Q (F0 m pc ls (.int x :: .ref (ad o i) :: rest)) :=
  va_iald (D := gD G) (cl := cls) (tys := tys G) hC.1 hC.2.1 hC.2.2.2.2.2.1 (hd.1.one he) 0 0 rfl rfl hin hdg kk
theorem zlald (hC : Cx G p c m s args own cc nL) (hd : Dy G ad ow Z s H locs) {o i n : Nat} {f : Nat → Int64} (he : ent G ad Z o i = some (lnA (gL G) n f)) {x : Int32} (hin : vp_in x n) (hdg : decode cc pc = .ok (.laload, 1))
    (kk : W p l e R s m args below meth c H locs cells slots Q (F0 m (pc + 1) ls (.long (f x.toNatClampNeg) :: rest))) : W p l e R s m args below meth c H locs cells slots Q (F0 m pc ls (.int x :: .ref (ad o i) :: rest)) :=
  va_lald (D := gD G) (cl := cls) (tys := tys G) hC.1 hC.2.1 hC.2.2.2.2.2.1 (hd.1.one he) 0 1 rfl rfl hin hdg kk
theorem zzald (hC : Cx G p c m s args own cc nL) (hd : Dy G ad ow Z s H locs) {o i n : Nat} {f : Nat → Int32} (he : ent G ad Z o i = some (inA (gZ G) n f)) {x : Int32} (hin : vp_in x n) (hdg : decode cc pc = .ok (.baload, 1))
    (kk : W p l e R s m args below meth c H locs cells slots Q (F0 m (pc + 1) ls (.int (f x.toNatClampNeg) :: rest))) : W p l e R s m args below meth c H locs cells slots Q (F0 m pc ls (.int x :: .ref (ad o i) :: rest)) :=
  va_zald (D := gD G) (cl := cls) (tys := tys G) hC.1 hC.2.1 hC.2.2.2.2.2.1 (hd.1.one he) 0 2 rfl rfl hin hdg kk
theorem zaaldO (hC : Cx G p c m s args own cc nL) (hd : Dy G ad ow Z s H locs) {o i n : Nat} {f : Nat → Option Nat} (he : ent G ad Z o i = some (rfA (gO G) n f)) {x : Int32} (hin : vp_in x n) (hdg : decode cc pc = .ok (.aaload, 1))
    (kk : W p l e R s m args below meth c H locs cells slots Q (F0 m (pc + 1) ls (va_rf (f x.toNatClampNeg) :: rest))) : W p l e R s m args below meth c H locs cells slots Q (F0 m pc ls (.int x :: .ref (ad o i) :: rest)) :=
  va_aldq (D := gD G) (cl := cls) (tys := tys G) hC.1 hC.2.1 hC.2.2.2.2.2.1 (hd.1.one he) 0 3 rfl rfl hin hdg kk
theorem zaaldP (hC : Cx G p c m s args own cc nL) (hd : Dy G ad ow Z s H locs) {o i n : Nat} {f : Nat → Option Nat} (he : ent G ad Z o i = some (rfA (gP G) n f)) {x : Int32} (hin : vp_in x n) (hdg : decode cc pc = .ok (.aaload, 1))
    (kk : W p l e R s m args below meth c H locs cells slots Q (F0 m (pc + 1) ls (va_rf (f x.toNatClampNeg) :: rest))) : W p l e R s m args below meth c H locs cells slots Q (F0 m pc ls (.int x :: .ref (ad o i) :: rest)) :=
  va_aldq (D := gD G) (cl := cls) (tys := tys G) hC.1 hC.2.1 hC.2.2.2.2.2.1 (hd.1.one he) 0 4 rfl rfl hin hdg kk
theorem zaaldK (hC : Cx G p c m s args own cc nL) (hd : Dy G ad ow Z s H locs) {o i n : Nat} {f : Nat → Option Nat} (he : ent G ad Z o i = some (rfA (gK G) n f)) {x : Int32} (hin : vp_in x n) (hdg : decode cc pc = .ok (.aaload, 1))
    (kk : W p l e R s m args below meth c H locs cells slots Q (F0 m (pc + 1) ls (va_rf (f x.toNatClampNeg) :: rest))) : W p l e R s m args below meth c H locs cells slots Q (F0 m pc ls (.int x :: .ref (ad o i) :: rest)) :=
  va_aldq (D := gD G) (cl := cls) (tys := tys G) hC.1 hC.2.1 hC.2.2.2.2.2.1 (hd.1.one he) 0 5 rfl rfl hin hdg kk
theorem ziast (hC : Cx G p c m s args own cc nL) (hd : Dy G ad ow Z s H locs) {o i n : Nat} {f : Nat → Int32} (he : ent G ad Z o i = some (inA (gI G) n f)) {x : Int32} {y : Int32} (hin : vp_in x n) (hU : Up G ad Z Z' o i (inA (gI G) n (upd f x.toNatClampNeg y))) (hdg : decode cc pc = .ok (.iastore, 1))
    (kk : ∀ (H1 : Heap) (locs1 : List Loc), Dy G ad ow Z' s H1 locs1 → W p l e R s m args below meth c H1 locs1 cells slots Q (F0 m (pc + 1) ls rest)) : W p l e R s m args below meth c H locs cells slots Q (F0 m pc ls (.int y :: .int x :: .ref (ad o i) :: rest)) := by
  have hK := hC.2.2.2.2.2.1
  refine W.iast hC.1 hC.2.1 (hd.1 o i _ he).1 ((hK.2 0 _ rfl).1 n (fun j => .int (f j))) (fun q => by cases q) (by show ¬ (x < 0 ∨ (arrV _ _ _).slots.size ≤ _); rw [arrV_size]; exact hin) rfl rfl hdg fun H1 e z oq => ?_
  refine kk H1 _ (hd.set he hU z ?_ oq)
  show H1[ad o i]? = some (vp_cell _ _)
  rw [e]
  rw [vp_cell_i, vp_cell_i, arrV_store]
  congr 2
  funext q
  by_cases hq : q = x.toNatClampNeg
  · subst hq
    simp [updV, upd]
    try rfl
  · simp [updV, upd, hq]
theorem zlast (hC : Cx G p c m s args own cc nL) (hd : Dy G ad ow Z s H locs) {o i n : Nat} {f : Nat → Int64} (he : ent G ad Z o i = some (lnA (gL G) n f)) {x : Int32} {y : Int64} (hin : vp_in x n) (hU : Up G ad Z Z' o i (lnA (gL G) n (vp_updL f x.toNatClampNeg y))) (hdg : decode cc pc = .ok (.lastore, 1))
    (kk : ∀ (H1 : Heap) (locs1 : List Loc), Dy G ad ow Z' s H1 locs1 → W p l e R s m args below meth c H1 locs1 cells slots Q (F0 m (pc + 1) ls rest)) : W p l e R s m args below meth c H locs cells slots Q (F0 m pc ls (.long y :: .int x :: .ref (ad o i) :: rest)) := by
  have hK := hC.2.2.2.2.2.1
  refine W.last hC.1 hC.2.1 (hd.1 o i _ he).1 ((hK.2 1 _ rfl).1 n (fun j => .long (f j))) (fun q => by cases q) (by show ¬ (x < 0 ∨ (arrV _ _ _).slots.size ≤ _); rw [arrV_size]; exact hin) rfl rfl hdg fun H1 e z oq => ?_
  refine kk H1 _ (hd.set he hU z ?_ oq)
  show H1[ad o i]? = some (vp_cell _ _)
  rw [e]
  rw [vp_cell_l, vp_cell_l, arrV_store]
  congr 2
  funext q
  by_cases hq : q = x.toNatClampNeg
  · subst hq
    simp [updV, vp_updL]
    try rfl
  · simp [updV, vp_updL, hq]
theorem zzast (hC : Cx G p c m s args own cc nL) (hd : Dy G ad ow Z s H locs) {o i n : Nat} {f : Nat → Int32} (he : ent G ad Z o i = some (inA (gZ G) n f)) {x : Int32} {y : Int32} (hin : vp_in x n) (hU : Up G ad Z Z' o i (inA (gZ G) n (upd f x.toNatClampNeg (vp_nar .boolean y)))) (hdg : decode cc pc = .ok (.bastore, 1))
    (kk : ∀ (H1 : Heap) (locs1 : List Loc), Dy G ad ow Z' s H1 locs1 → W p l e R s m args below meth c H1 locs1 cells slots Q (F0 m (pc + 1) ls rest)) : W p l e R s m args below meth c H locs cells slots Q (F0 m pc ls (.int y :: .int x :: .ref (ad o i) :: rest)) := by
  have hK := hC.2.2.2.2.2.1
  refine W.zast hC.1 hC.2.1 (hd.1 o i _ he).1 ((hK.2 2 _ rfl).1 n (fun j => .int (f j))) (fun q => by cases q) (by show ¬ (x < 0 ∨ (arrV _ _ _).slots.size ≤ _); rw [arrV_size]; exact hin) rfl rfl hdg fun H1 e z oq => ?_
  refine kk H1 _ (hd.set he hU z ?_ oq)
  show H1[ad o i]? = some (vp_cell _ _)
  rw [e]
  rw [vp_cell_i, vp_cell_i, arrV_store]
  congr 2
  funext q
  by_cases hq : q = x.toNatClampNeg
  · subst hq
    simp [updV, upd, vp_nar]
    try rfl
  · simp [updV, upd, hq]
theorem zaastK (hC : Cx G p c m s args own cc nL) (hd : Dy G ad ow Z s H locs) {o i n : Nat} {f : Nat → Option Nat} (he : ent G ad Z o i = some (rfA (gK G) n f)) {k : Nat} {fs : List Value} (hv : ent G ad Z 1 k = some (.inr (1, fs))) {x : Int32} (hin : vp_in x n) (hU : Up G ad Z Z' o i (rfA (gK G) n (va_up f x.toNatClampNeg (some (ad 1 k))))) (hdg : decode cc pc = .ok (.aastore, 1))
    (kk : ∀ (H1 : Heap) (locs1 : List Loc), Dy G ad ow Z' s H1 locs1 → W p l e R s m args below meth c H1 locs1 cells slots Q (F0 m (pc + 1) ls rest)) : W p l e R s m args below meth c H locs cells slots Q (F0 m pc ls (.ref (ad 1 k) :: .int x :: .ref (ad o i) :: rest)) := by
  have hK := hC.2.2.2.2.2.1
  have hca : va_Nw (.castable "KeyGraph$Key" "KeyGraph$Key") s := hC.2.2.2.2.2.2.1 _ z_887
  have hlt : x.toNatClampNeg < n := Nat.not_le.mp fun q => hin (Or.inr q)
  have h0 : ¬ x < 0 := fun q => hin (Or.inl q)
  obtain ⟨cellV, g1, g3, g2⟩ := va_recv (q := ("KeyGraph$Key", F_Key, 18)) hK (hd.1.one hv) rfl (q0 := 0) rfl
  obtain ⟨kA, comp, k1, k2, k3, -⟩ := (hK.2 5 _ rfl).2
  obtain ⟨kE, hkE, -⟩ := Vm.findClass_spec k3
  obtain ⟨kC, hkC, -⟩ := Vm.findClass_spec g2
  obtain ⟨c0, t1, f1, f2, f3⟩ := Cond.castable_spec (va_Nw.use (A := args) rfl hca)
  cases g2.symm.trans f1
  cases k3.symm.trans f2
  refine W.aast hC.1 hC.2.1 (hd.1 o i _ he).1 (fun q h => by cases h) (fun h => by cases h) k1 k2 rfl hkE ⟨h0, by show _ < (arrV _ _ _).slots.size; rw [arrV_size]; exact hlt⟩ g1 (fun q h => by rw [h] at g3; cases g3) hkC f3 rfl rfl hdg fun H1 e z oq => ?_
  refine kk H1 _ (hd.set he hU z ?_ oq)
  show H1[ad o i]? = some (vp_cell _ _)
  rw [e]
  rw [vp_cell_q, vp_cell_q, arrV_store]
  congr 2
  funext q
  by_cases hq : q = x.toNatClampNeg
  · subst hq
    simp [updV, va_up, va_rf]
  · simp [updV, va_up, hq]
theorem zaastO (hC : Cx G p c m s args own cc nL) (hd : Dy G ad ow Z s H locs) {o i n : Nat} {f : Nat → Option Nat} (he : ent G ad Z o i = some (rfA (gO G) n f)) {k : Nat} {fs : List Value} (hv : ent G ad Z 1 k = some (.inr (1, fs))) {x : Int32} (hin : vp_in x n) (hU : Up G ad Z Z' o i (rfA (gO G) n (va_up f x.toNatClampNeg (some (ad 1 k))))) (hdg : decode cc pc = .ok (.aastore, 1))
    (kk : ∀ (H1 : Heap) (locs1 : List Loc), Dy G ad ow Z' s H1 locs1 → W p l e R s m args below meth c H1 locs1 cells slots Q (F0 m (pc + 1) ls rest)) : W p l e R s m args below meth c H locs cells slots Q (F0 m pc ls (.ref (ad 1 k) :: .int x :: .ref (ad o i) :: rest)) := by
  have hK := hC.2.2.2.2.2.1
  have hca : va_Nw (.castable "KeyGraph$Key" "java/lang/Object") s := hC.2.2.2.2.2.2.1 _ z_894
  have hlt : x.toNatClampNeg < n := Nat.not_le.mp fun q => hin (Or.inr q)
  have h0 : ¬ x < 0 := fun q => hin (Or.inl q)
  obtain ⟨cellV, g1, g3, g2⟩ := va_recv (q := ("KeyGraph$Key", F_Key, 18)) hK (hd.1.one hv) rfl (q0 := 0) rfl
  obtain ⟨kA, comp, k1, k2, k3, -⟩ := (hK.2 3 _ rfl).2
  obtain ⟨kE, hkE, -⟩ := Vm.findClass_spec k3
  obtain ⟨kC, hkC, -⟩ := Vm.findClass_spec g2
  obtain ⟨c0, t1, f1, f2, f3⟩ := Cond.castable_spec (va_Nw.use (A := args) rfl hca)
  cases g2.symm.trans f1
  cases k3.symm.trans f2
  refine W.aast hC.1 hC.2.1 (hd.1 o i _ he).1 (fun q h => by cases h) (fun h => by cases h) k1 k2 rfl hkE ⟨h0, by show _ < (arrV _ _ _).slots.size; rw [arrV_size]; exact hlt⟩ g1 (fun q h => by rw [h] at g3; cases g3) hkC f3 rfl rfl hdg fun H1 e z oq => ?_
  refine kk H1 _ (hd.set he hU z ?_ oq)
  show H1[ad o i]? = some (vp_cell _ _)
  rw [e]
  rw [vp_cell_q, vp_cell_q, arrV_store]
  congr 2
  funext q
  by_cases hq : q = x.toNatClampNeg
  · subst hq
    simp [updV, va_up, va_rf]
  · simp [updV, va_up, hq]
theorem zaastN (hC : Cx G p c m s args own cc nL) (hd : Dy G ad ow Z s H locs) {o i n : Nat} {f : Nat → Option Nat} (he : ent G ad Z o i = some (rfA (gO G) n f)) {x : Int32} (hin : vp_in x n) (hU : Up G ad Z Z' o i (rfA (gO G) n (va_up f x.toNatClampNeg none))) (hdg : decode cc pc = .ok (.aastore, 1))
    (kk : ∀ (H1 : Heap) (locs1 : List Loc), Dy G ad ow Z' s H1 locs1 → W p l e R s m args below meth c H1 locs1 cells slots Q (F0 m (pc + 1) ls rest)) : W p l e R s m args below meth c H locs cells slots Q (F0 m pc ls (.null :: .int x :: .ref (ad o i) :: rest)) := by
  have hK := hC.2.2.2.2.2.1
  refine va_WaastN (C := "java/lang/Object") hC.1 hC.2.1 (hd.1 o i _ he).1 ((hK.2 3 _ rfl).1 n (fun j => va_rf (f j))) (fun h => by cases h) (by show ¬ (x < 0 ∨ (arrV _ _ _).slots.size ≤ _); rw [arrV_size]; exact hin) rfl rfl hdg fun H1 e z oq => ?_
  refine kk H1 _ (hd.set he hU z ?_ oq)
  show H1[ad o i]? = some (vp_cell _ _)
  rw [e]
  rw [vp_cell_q, vp_cell_q, arrV_store]
  congr 2
  funext q
  by_cases hq : q = x.toNatClampNeg
  · subst hq
    simp [updV, va_up, va_rf]
  · simp [updV, va_up, hq]
theorem zalen (hC : Cx G p c m s args own cc nL) (hd : Dy G ad ow Z s H locs) {o i : Nat} {cA : ClassId} {x : vp_A} (he : ent G ad Z o i = some (.inl (cA, x))) (t0 : Nat) {ty : FieldType} (ht : (tys G)[t0]? = some (cA, ty)) {v : Int32} (hv : Int32.ofNat x.1 = v) (hdg : decode cc pc = .ok (.arraylength, 1))
    (kk : W p l e R s m args below meth c H locs cells slots Q (F0 m (pc + 1) ls (.int v :: rest))) : W p l e R s m args below meth c H locs cells slots Q (F0 m pc ls (.ref (ad o i) :: rest)) :=
  va_alen (D := gD G) (cl := cls) (tys := tys G) hC.1 hC.2.1 hC.2.2.2.2.2.1 (hd.1.one he) 0 t0 rfl ht hv hdg kk
theorem zcast (hC : Cx G p c m s args own cc nL) (hd : Dy G ad ow Z s H locs) {k : Nat} {fs : List Value} (he : ent G ad Z 1 k = some (.inr (1, fs))) {index : Nat} (hl : Cond.classLink own index "KeyGraph$Key" ∈ TT) (hdg : decode cc pc = .ok (.checkcast index, 3))
    (kk : W p l e R s m args below meth c H locs cells slots Q (F0 m (pc + 3) ls (.ref (ad 1 k) :: rest))) : W p l e R s m args below meth c H locs cells slots Q (F0 m pc ls (.ref (ad 1 k) :: rest)) :=
  va_castY hC.1 hC.2.1 hC.2.2.2.1 (hC.2.2.2.2.1 _ hl) (hC.2.2.2.2.2.2.1 _ z_887) (va_recv (q := ("KeyGraph$Key", F_Key, 18)) hC.2.2.2.2.2.1 (hd.1.one he) rfl (q0 := 0) rfl) hdg kk
/-! contracts whose answer and whose new state are functions of the old ones -/
def zPc (G : Gt) (ad : Nat → Nat → Nat) (ow : Nat → Nat × Nat) (Z : Zt) (av : List Value) : Array Value → State → Prop := va_Pc av (fun U => HP G ad ow Z U.heap ∧ EV G U)
def Qd (G : Gt) (ad : Nat → Nat → Nat) (ow : Nat → Nat × Nat) (Z : Zt) (v : Option Value) : Array Value → State → Outcome → State → Prop := fun _ st oc t => oc = .returned v ∧ HP G ad ow Z t.heap ∧ va_F (zA G) st t
/-- .. or only related to them: the world behind the call is one of which 'post' holds -/
def Qg (G : Gt) (post : (Nat → Nat → Nat) → (Nat → Nat × Nat) → Zt → Option Value → Prop) : Array Value → State → Outcome → State → Prop := fun _ st oc t => ∃ ad ow Z v, oc = .returned v ∧ post ad ow Z v ∧ HP G ad ow Z t.heap ∧ va_F (zA G) st t
theorem zPc.blind {av : List Value} : FrameBlind (zPc G ad ow Z av) := fun a U g mk h => ⟨h.1, h.2.1, h.2.2.calling g mk a⟩
theorem zPc.of (hC : Cx G p c m s args own cc nL) (hd : Dy G ad ow Z s H locs) (av : List Value) (U : State) (hU : U.heap = H) (hW : s.WarmedH U.vm) : zPc G ad ow Z av av.toArray U := ⟨rfl, by rw [hU]; exact hd.1, hC.2.2.2.2.2.warm hd.2.1 hU hW⟩
end
theorem zopen {l : Launch} {G : Gt} {ad : Nat → Nat → Nat} {ow : Nat → Nat × Nat} {Z : Zt} {y : MethodName} {cc : ByteArray} {maxL : Nat} {ret : Option FieldType} {ws : List Cond} {rm : Room} {Qc : Array Value → State → Outcome → State → Prop} {mc ms : Nat} {av : List Value} (hy : plainName y.cls = true) (hw : ws = Cond.code y cc maxL ret :: TT) (hl : (lg_sl av).length ≤ maxL)
    (body : ∀ p e s m below meth c ls, Cx G p c m s av.toArray y.cls cc maxL → meth.sig.returnType = ret → meth.locks = false → meth.name = y.name → Dy G ad ow Z s s.heap [] → lv_has ls maxL (lv_args 0 av) →
      W p l e rm s m av.toArray below meth c s.heap [] 0 0 (MQ below Qc av.toArray s mc ms (zA G)) (F0 m 0 ls [])) : Met l y ws rm (zPc G ad ow Z av) Qc mc ms (zA G) := by
  refine Met.ofW (cc := cc) (maxL := maxL) (ret := ret) hy hw ?_
  intro p e s m args below meth c s₁ B hml hv
  obtain ⟨rfl, hP, hE⟩ := hv
  have hts := atoms_spec (ws := ws) B.pre
  rw [lg_entry_eq]
  exact body p e s m below meth c _ ⟨B.exec, B.bytes, hml, findClass_of_methodNamed B.named, fun w hw' => hts w (by rw [hw]; exact List.mem_cons_of_mem _ hw'), hE⟩ B.returns B.notSynchronized (name_of_methodNamed B.named B.method).1 ⟨hP, va_S.rf, hE.2.2.2.2.2.2.2.2⟩ (lv_entry av hl)
section
variable {p : Program} {l : Launch} {e : Env} {R : Room} {s : State} {m : MethodId} {args : Array Value} {below : List Frame} {meth : Method} {c : Code} {H : Heap} {locs : List Loc} {cells slots : Nat} {Q : State → Prop} {cc : ByteArray} {pc nL : Nat} {ls : Array Slot} {rest : List Value} {G : Gt} {ad : Nat → Nat → Nat} {ow : Nat → Nat × Nat} {Z Z' : Zt} {own : String}
variable {y x : MethodName} {bytes : ByteArray} {maxL mc ms n index : Nat} {ret : Option FieldType} {rm : Room} {Pc : Array Value → State → Prop} {Qc : Array Value → State → Outcome → State → Prop} {As st0 : List Value} {a9 : Array Value} {v : Option Value} {ad' : Nat → Nat → Nat} {ow' : Nat → Nat × Nat}
theorem gd_TT (h : Cond.code y bytes maxL ret ∈ TT) : GoodIn TT (Cond.code y bytes maxL ret :: TT) := by
  intro w hw
  rcases List.mem_cons.mp hw with rfl | hw
  · exact ⟨h, good_of_word (List.mem_filter.mp h).2⟩
  · exact ⟨hw, good_of_word (List.mem_filter.mp hw).2⟩
theorem gd_app {a b : List Cond} (h1 : ∀ w ∈ a, w ∈ TT) (h2 : GoodIn TT b) : GoodIn TT (a ++ b) := by
  intro w hw
  rcases List.mem_append.mp hw with hw | hw
  · exact ⟨h1 w hw, good_of_word (List.mem_filter.mp (h1 w hw)).2⟩
  · exact h2 w hw
/-- behind a call of a contract with a determined end -/
theorem zback (hd : Dy G ad ow Z s H locs) (hr : va_Run p l e R s m args below meth c H locs cells slots mc ms (F0 m pc ls st0) rest (Qd G ad' ow' Z' v a9) (zA G)) {cells' slots' : Nat} (hc1 : cells + mc = cells') (hc2 : slots + ms = slots')
    (kk : ∀ (H1 : Heap) (locs1 : List Loc), Dy G ad' ow' Z' s H1 locs1 → W p l e R s m args below meth c H1 locs1 cells' slots' Q (F0 m (pc + 3) ls (v.toList ++ rest))) : W p l e R s m args below meth c H locs cells slots Q (F0 m pc ls st0) := by
  subst hc1; subst hc2
  intro T hT X
  obtain ⟨v', st₀, t, T', L, h0, X', hL, e1, e2, ⟨hv, hp, hz, hk⟩, st⟩ := hr T hT X
  cases hv
  rw [h0] at hz hk
  obtain ⟨t2, a1, b1⟩ := kk T'.heap (locs ++ L) ⟨by rw [e1]; exact hp, ⟨Nat.le_trans hd.2.1.1 (by rw [e1]; exact hz), fun q h1 h2 => by rw [e1, hk q (Nat.lt_of_lt_of_le h1 hd.2.1.1) h2]; exact hd.2.1.2.1 q h1 h2, fun q hq => by
      rcases List.mem_append.mp hq with h | h
      · exact hd.2.1.2.2 q h
      · exact hL q h⟩, hd.2.2⟩ T' rfl X'
  exact ⟨t2, st t2 a1, b1⟩
theorem zbackg {post : (Nat → Nat → Nat) → (Nat → Nat × Nat) → Zt → Option Value → Prop} (hd : Dy G ad ow Z s H locs) (hr : va_Run p l e R s m args below meth c H locs cells slots mc ms (F0 m pc ls st0) rest (Qg G post a9) (zA G)) {cells' slots' : Nat} (hc1 : cells + mc = cells') (hc2 : slots + ms = slots')
    (kk : ∀ (ad' : Nat → Nat → Nat) (ow' : Nat → Nat × Nat) (Z' : Zt) (v : Option Value) (H1 : Heap) (locs1 : List Loc), post ad' ow' Z' v → Dy G ad' ow' Z' s H1 locs1 → W p l e R s m args below meth c H1 locs1 cells' slots' Q (F0 m (pc + 3) ls (v.toList ++ rest))) : W p l e R s m args below meth c H locs cells slots Q (F0 m pc ls st0) := by
  subst hc1; subst hc2
  intro T hT X
  obtain ⟨v', st₀, t, T', L, h0, X', hL, e1, e2, ⟨ad', ow', Z', v, hv, hpo, hp, hz, hk⟩, st⟩ := hr T hT X
  cases hv
  rw [h0] at hz hk
  obtain ⟨t2, a1, b1⟩ := kk ad' ow' Z' v' T'.heap (locs ++ L) hpo ⟨by rw [e1]; exact hp, ⟨Nat.le_trans hd.2.1.1 (by rw [e1]; exact hz), fun q h1 h2 => by rw [e1, hk q (Nat.lt_of_lt_of_le h1 hd.2.1.1) h2]; exact hd.2.1.2.1 q h1 h2, fun q hq => by
      rcases List.mem_append.mp hq with h | h
      · exact hd.2.1.2.2 q h
      · exact hL q h⟩, hd.2.2⟩ T' rfl X'
  exact ⟨t2, st t2 a1, b1⟩
/-- invokevirtual of a method of the receiver's own class -/
theorem zrunV (hC : Cx G p c m s args own cc nL) (hd : Dy G ad ow Z s H locs) {o i ci : Nat} {fs : List Value} (he : ent G ad Z o i = some (.inr (ci, fs))) {C : String} {T : u_T} {N : Nat} (hc : cls[ci]? = some (C, T, N)) (hM : Met l y (Cond.code y bytes maxL ret :: TT) rm (zPc G ad ow Z (.ref (ad o i) :: As)) Qc mc ms (zA G)) (h1 : Cond.methodLink own index y ∈ TT) (h2 : Cond.instanceMethod y ∈ TT) (h3 : Cond.selects C y y ∈ TT) (h4 : Cond.initialized C ∈ TT) (h5 : Cond.code y bytes maxL ret ∈ TT) (hrc : rm.cells = mc) (hrs : rm.slots = ms) (hn : As.length = n)
    (hdd : y.cls = C ∧ y.cls ≠ "java/lang/invoke/MethodHandle" ∧ y.cls ≠ "java/lang/invoke/VarHandle" ∧ (parseMethodDescriptor y.desc).map (fun d => d.parameters.length) = some n) (hR : rm.frames + 1 ≤ R.frames ∧ 8 + (maxL + 11) + rm.locals ≤ R.locals) (hstack : st0 = As.reverse ++ .ref (ad o i) :: rest) (hls : ls.size = nL) (hW : (rest.map fun v => v.category).sum ≤ 8) (hdg : decode cc pc = .ok (.invokevirtual index, 3)) (hf : cells + mc ≤ R.cells ∧ slots + ms ≤ R.slots) :
    va_Run p l e R s m args below meth c H locs cells slots mc ms (F0 m pc ls st0) rest (Qc (Value.ref (ad o i) :: As).toArray) (zA G) :=
  va_runV (As := As) (rest := rest) ⟨hC.1, hC.2.1, hC.2.2.1, hC.2.2.2.1, hC.2.2.2.2.1⟩ hM (cwV n hC.2.2.2.2.1 (gd_app (by intro w hw; simp only [List.mem_cons, List.not_mem_nil, or_false] at hw; rcases hw with rfl | rfl | rfl | rfl <;> assumption) (gd_TT h5)) rfl hrc hrs hdd hR) ⟨zPc.blind, va_recv (q := (C, T, N)) hC.2.2.2.2.2.1 (hd.1.one he) hc (q0 := 0) rfl, fun U hU hW => zPc.of hC hd _ U hU hW⟩ rfl hn hls hstack (lv_room hW) hdg hf
/-- invokestatic of a method of the same class -/
theorem zrunS (hC : Cx G p c m s args own cc nL) (hd : Dy G ad ow Z s H locs) (hM : Met l y (Cond.code y bytes maxL ret :: TT) rm (zPc G ad ow Z As) Qc mc ms (zA G)) (h1 : Cond.methodLink own index y ∈ TT) (h2 : Cond.static y ∈ TT) (h4 : Cond.initialized y.cls ∈ TT) (h5 : Cond.code y bytes maxL ret ∈ TT) (hrc : rm.cells = mc) (hrs : rm.slots = ms) (hn : As.length = n)
    (hdd : y.cls ≠ "java/lang/invoke/MethodHandle" ∧ y.cls ≠ "java/lang/invoke/VarHandle" ∧ (parseMethodDescriptor y.desc).map (fun d => d.parameters.length) = some n) (hR : rm.frames + 1 ≤ R.frames ∧ 8 + (maxL + 11) + rm.locals ≤ R.locals) (hstack : st0 = As.reverse ++ rest) (hls : ls.size = nL) (hW : (rest.map fun v => v.category).sum ≤ 8) (hdg : decode cc pc = .ok (.invokestatic index, 3)) (hf : cells + mc ≤ R.cells ∧ slots + ms ≤ R.slots) :
    va_Run p l e R s m args below meth c H locs cells slots mc ms (F0 m pc ls st0) rest (Qc As.toArray) (zA G) :=
  va_runS (As := As) (rest := rest) ⟨hC.1, hC.2.1, hC.2.2.1, hC.2.2.2.1, hC.2.2.2.2.1⟩ hM (va_cwS n hC.2.2.2.2.1 (gd_app (by intro w hw; simp only [List.mem_cons, List.not_mem_nil, or_false] at hw; rcases hw with rfl | rfl | rfl <;> assumption) (gd_TT h5)) rfl hrc hrs hdd hR) ⟨zPc.blind, fun U hU hW => zPc.of hC hd _ U hU hW⟩ rfl hn hls hstack (lv_room hW) hdg hf
/-- the end of a method -/
theorem zret_i {x : Int32} (hC : Cx G p c m s args own cc nL) (hd : Dy G ad ow Z s H locs) (hr : meth.sig.returnType = some .int) (hlk : meth.locks = false) (hdg : decode cc pc = .ok (.ireturn, 1)) : W p l e R s m args below meth c H locs cells slots (MQ below (Qd G ad ow Z (some (.int x))) args s cells slots (zA G)) (F0 m pc ls [.int x]) :=
  W.iret hC.1 hC.2.1 hr (fun t ht _ => ⟨rfl, by rw [ht]; exact hd.1, hd.2.1.F ht⟩) hd.2.1.2.2 hdg hlk
theorem zret_z {x : Int32} (hC : Cx G p c m s args own cc nL) (hd : Dy G ad ow Z s H locs) (hr : meth.sig.returnType = some .boolean) (hn : x = 0 ∨ x = 1) (hlk : meth.locks = false) (hdg : decode cc pc = .ok (.ireturn, 1)) : W p l e R s m args below meth c H locs cells slots (MQ below (Qd G ad ow Z (some (.int x))) args s cells slots (zA G)) (F0 m pc ls [.int x]) :=
  W.zret hC.1 hC.2.1 hr (by rcases hn with rfl | rfl <;> decide) (fun t ht _ => ⟨rfl, by rw [ht]; exact hd.1, hd.2.1.F ht⟩) hd.2.1.2.2 hdg hlk
theorem zret_l {x : Int64} (hC : Cx G p c m s args own cc nL) (hd : Dy G ad ow Z s H locs) (hr : meth.sig.returnType = some .long) (hlk : meth.locks = false) (hdg : decode cc pc = .ok (.lreturn, 1)) : W p l e R s m args below meth c H locs cells slots (MQ below (Qd G ad ow Z (some (.long x))) args s cells slots (zA G)) (F0 m pc ls [.long x]) :=
  W.lret hC.1 hC.2.1 hr (fun t ht _ => ⟨rfl, by rw [ht]; exact hd.1, hd.2.1.F ht⟩) hd.2.1.2.2 hdg hlk
theorem zret_v (hC : Cx G p c m s args own cc nL) (hd : Dy G ad ow Z s H locs) (hr : meth.sig.returnType = none) (hlk : meth.locks = false) (hdg : decode cc pc = .ok (.return_, 1)) : W p l e R s m args below meth c H locs cells slots (MQ below (Qd G ad ow Z none) args s cells slots (zA G)) (F0 m pc ls []) :=
  W.vret hC.1 hC.2.1 hr (fun t ht _ => ⟨rfl, by rw [ht]; exact hd.1, hd.2.1.F ht⟩) hd.2.1.2.2 hdg hlk
theorem zret_a {x : Nat} {rt : FieldType} (hC : Cx G p c m s args own cc nL) (hd : Dy G ad ow Z s H locs) (hr : meth.sig.returnType = some rt) (hrt : (∃ n, rt = .object n) ∨ ∃ t, rt = .array t) (hlk : meth.locks = false) (hdg : decode cc pc = .ok (.areturn, 1)) : W p l e R s m args below meth c H locs cells slots (MQ below (Qd G ad ow Z (some (.ref x))) args s cells slots (zA G)) (F0 m pc ls [.ref x]) :=
  W.aret hC.1 hC.2.1 hr hrt (Or.inr ⟨_, rfl⟩) (fun t ht _ => ⟨rfl, by rw [ht]; exact hd.1, hd.2.1.F ht⟩) hd.2.1.2.2 hdg hlk
/-- the state under another name -/
theorem Dy.eq (hd : Dy G ad ow Z s H locs) (h : Z = Z') : Dy G ad ow Z' s H locs := h ▸ hd
end
