/-! objects that are being made: kind 13 -/
def upA (ad : Nat → Nat → Nat) (o i a : Nat) : Nat → Nat → Nat := fun o' i' => if o' = o ∧ i' = i then a else ad o' i'
theorem upA_self (ad : Nat → Nat → Nat) (o i a : Nat) : upA ad o i a o i = a := if_pos ⟨rfl, rfl⟩
theorem upA_ne (ad : Nat → Nat → Nat) {o i a o' i' : Nat} (h : ¬ (o' = o ∧ i' = i)) : upA ad o i a o' i' = ad o' i' := if_neg h
theorem ent_alloc {G : Gt} {ad : Nat → Nat → Nat} {Z : Zt} {r a : Nat} {v : Option va_E} (o i : Nat) (h : ¬ (o = 13 ∧ i = r)) : ent G (upA ad 13 r a) (sr Z r v) o i = ent G ad Z o i := by
  match o, h with
  | 0, h => rfl
  | 1, h => rfl
  | 2, h => rfl
  | 3, h => rfl
  | 4, h => rfl
  | 5, h => rfl
  | 6, h => rfl
  | 7, h => rfl
  | 8, h => rfl
  | 9, h => rfl
  | 10, h => rfl
  | 11, h => rfl
  | 12, h => rfl
  | 13, h => (have hi : ¬ i = r := fun q => h ⟨rfl, q⟩; simp only [ent, xr_sr, hi, if_false, xn_sr])
  | (n + 14), h => rfl
theorem HP.alloc {G : Gt} {ad : Nat → Nat → Nat} {ow : Nat → Nat × Nat} {Z : Zt} {H H1 : Heap} {r : Nat} {e : va_E} (h : HP G ad ow Z H) (hr : r < xn Z 0 13) (o1 : ∀ q : Nat, q < H.size → H1[q]? = H[q]?) (ha : va_at (gD G) cls (H.size, e) H1) (hb : gb G ≤ H.size) :
    HP G (upA ad 13 r H.size) (fun q => if q = H.size then (13, r) else ow q) (sr Z r (some e)) H1 := by
  intro o i e' he'
  by_cases hc : o = 13 ∧ i = r
  · obtain ⟨rfl, rfl⟩ := hc
    rw [e_raw (show i < xn (sr Z i (some e)) 0 13 from hr) (show xr (sr Z i (some e)) i = some e by rw [xr_sr, if_pos rfl])] at he'
    cases he'
    rw [upA_self]
    exact ⟨ha, hb, if_pos rfl⟩
  · rw [ent_alloc o i hc] at he'
    rw [upA_ne ad hc]
    have h1 := h o i e' he'
    have hlt : ad o i < H.size := h1.1.lt
    exact ⟨h1.1.kept (o1 _ hlt), h1.2.1, (if_neg (Nat.ne_of_lt hlt)).trans h1.2.2⟩
theorem Dy.alloc {G : Gt} {ad : Nat → Nat → Nat} {ow : Nat → Nat × Nat} {Z : Zt} {s : State} {H H1 : Heap} {locs : List Loc} {r : Nat} {e : va_E} (hd : Dy G ad ow Z s H locs) (hr : r < xn Z 0 13) (z1 : H1.size = H.size + 1) (o1 : ∀ q : Nat, q < H.size → H1[q]? = H[q]?) (ha : va_at (gD G) cls (H.size, e) H1) :
    Dy G (upA ad 13 r H.size) (fun q => if q = H.size then (13, r) else ow q) (sr Z r (some e)) s H1 locs :=
  ⟨hd.1.alloc hr o1 ha (Nat.le_trans hd.2.2 hd.2.1.1), ⟨Nat.le_trans hd.2.1.1 (by omega), fun x h1 h2 => (o1 x (Nat.lt_of_lt_of_le h1 hd.2.1.1)).trans (hd.2.1.2.1 x h1 h2), hd.2.1.2.2⟩, hd.2.2⟩
/-- another naming of what lies there -/
theorem HP.name {G : Gt} {ad ad' : Nat → Nat → Nat} {ow ow' : Nat → Nat × Nat} {Z Z' : Zt} {H : Heap} (h : HP G ad ow Z H) (hn : ∀ o i e, ent G ad' Z' o i = some e → ∃ o0 i0, ent G ad Z o0 i0 = some e ∧ ad' o i = ad o0 i0 ∧ ow' (ad o0 i0) = (o, i)) : HP G ad' ow' Z' H := by
  intro o i e he
  obtain ⟨o0, i0, h1, h2, h3⟩ := hn o i e he
  rw [h2]
  exact ⟨(h o0 i0 e h1).1, (h o0 i0 e h1).2.1, h3⟩
section
variable {p : Program} {l : Launch} {e : Env} {R : Room} {s : State} {m : MethodId} {args : Array Value} {below : List Frame} {meth : Method} {c : Code} {H : Heap} {locs : List Loc} {cells slots : Nat} {Q : State → Prop} {cc : ByteArray} {pc nL : Nat} {ls : Array Slot} {rest : List Value} {G : Gt} {ad : Nat → Nat → Nat} {ow : Nat → Nat × Nat} {Z Z' : Zt} {own : String}
theorem znew (hC : Cx G p c m s args own cc nL) (hd : Dy G ad ow Z s H locs) {C : String} {T : u_T} {N ci index : Nat} (hc : cls[ci]? = some (C, T, N)) (hin : ∀ w ∈ u_ws C T N, w ∈ TT) (ty : Nat → FieldType) (hty : ∀ k, k < N → parseFieldDescriptor (T k).2.2.1 = some (ty k)) (hcl : Cond.classLink own index C ∈ TT) (hinst : Cond.instantiable C N ∈ TT) (hini : Cond.initialized C ∈ TT)
    {fs : List Value} (hfs : ∀ j, j < N → defaultValue (ty j) = vp_V fs j) (r : Nat) (hr : r < xn Z 0 13) (hcells : cells + 1 ≤ R.cells) (hslots : slots + N ≤ R.slots) (hdg : decode cc pc = .ok (.new index, 3))
    (kk : ∀ (a : Nat) (ow : Nat → Nat × Nat) (H1 : Heap), Dy G (upA ad 13 r a) ow (sr Z r (some (.inr (ci, fs)))) s H1 locs → W p l e R s m args below meth c H1 locs (cells + 1) (slots + N) Q (F0 m (pc + 3) ls (.ref a :: rest))) : W p l e R s m args below meth c H locs cells slots Q (F0 m pc ls rest) := by
  have hts := hC.2.2.2.2.1
  have hKn := hC.2.2.2.2.2.1.1 ci _ hc
  refine W.newcK hC.1 hC.2.1 hC.2.2.2.1 (hts _ hcl) (hts _ hinst) (hts _ hini) rfl hdg hcells hslots hKn.2.1 rfl fun H1 kC hkC e1 z1 o1 => ?_
  have h9 := kk H.size _ H1 (hd.alloc hr z1 o1 ⟨_, hc, (u_born ty hts hin hKn hkC e1 hty).to hfs⟩)
  exact h9
theorem znewI (hC : Cx G p c m s args own cc nL) (hd : Dy G ad ow Z s H locs) {n : Int32} (N : Nat) (hn : ¬ n < 0) (hN : n.toNatClampNeg = N) (hbytes : N * componentBytes .int ≤ 536870912) (r : Nat) (hr : r < xn Z 0 13) (harr : Cond.arrayClass .int ∈ TT) (hcells : cells + 1 ≤ R.cells) (hslots : slots + N ≤ R.slots) (hdg : decode cc pc = .ok (.newarray .int, 2))
    (kk : ∀ (a : Nat) (ow : Nat → Nat × Nat) (H1 : Heap), Dy G (upA ad 13 r a) ow (sr Z r (some (inA (gI G) N (fun _ => 0)))) s H1 locs → W p l e R s m args below meth c H1 locs (cells + 1) (slots + N) Q (F0 m (pc + 2) ls (.ref a :: rest))) : W p l e R s m args below meth c H locs cells slots Q (F0 m pc ls (.int n :: rest)) := by
  refine va_newaK (atype := .int) hC.1 hC.2.1 (hC.2.2.2.2.1 _ harr) rfl hdg rfl hn hN hbytes hcells hslots rfl fun H1 cA e1 z1 o1 hAr hNm => ?_
  have hq : cA = gI G := Option.some.inj (hNm.symm.trans (hC.2.2.2.2.2.1.2 0 _ rfl).2)
  subst hq
  have h9 := kk H.size _ H1 (hd.alloc hr z1 o1 (by show H1[H.size]? = some (vp_cell _ _); rw [vp_cell_i]; exact e1))
  exact h9
theorem znewL (hC : Cx G p c m s args own cc nL) (hd : Dy G ad ow Z s H locs) {n : Int32} (N : Nat) (hn : ¬ n < 0) (hN : n.toNatClampNeg = N) (hbytes : N * componentBytes .long ≤ 536870912) (r : Nat) (hr : r < xn Z 0 13) (harr : Cond.arrayClass .long ∈ TT) (hcells : cells + 1 ≤ R.cells) (hslots : slots + N ≤ R.slots) (hdg : decode cc pc = .ok (.newarray .long, 2))
    (kk : ∀ (a : Nat) (ow : Nat → Nat × Nat) (H1 : Heap), Dy G (upA ad 13 r a) ow (sr Z r (some (lnA (gL G) N (fun _ => 0)))) s H1 locs → W p l e R s m args below meth c H1 locs (cells + 1) (slots + N) Q (F0 m (pc + 2) ls (.ref a :: rest))) : W p l e R s m args below meth c H locs cells slots Q (F0 m pc ls (.int n :: rest)) := by
  refine va_newaK (atype := .long) hC.1 hC.2.1 (hC.2.2.2.2.1 _ harr) rfl hdg rfl hn hN hbytes hcells hslots rfl fun H1 cA e1 z1 o1 hAr hNm => ?_
  have hq : cA = gL G := Option.some.inj (hNm.symm.trans (hC.2.2.2.2.2.1.2 1 _ rfl).2)
  subst hq
  have h9 := kk H.size _ H1 (hd.alloc hr z1 o1 (by show H1[H.size]? = some (vp_cell _ _); rw [vp_cell_l]; exact e1))
  exact h9
theorem znewZ (hC : Cx G p c m s args own cc nL) (hd : Dy G ad ow Z s H locs) {n : Int32} (N : Nat) (hn : ¬ n < 0) (hN : n.toNatClampNeg = N) (hbytes : N * componentBytes .boolean ≤ 536870912) (r : Nat) (hr : r < xn Z 0 13) (harr : Cond.arrayClass .boolean ∈ TT) (hcells : cells + 1 ≤ R.cells) (hslots : slots + N ≤ R.slots) (hdg : decode cc pc = .ok (.newarray .boolean, 2))
    (kk : ∀ (a : Nat) (ow : Nat → Nat × Nat) (H1 : Heap), Dy G (upA ad 13 r a) ow (sr Z r (some (inA (gZ G) N (fun _ => 0)))) s H1 locs → W p l e R s m args below meth c H1 locs (cells + 1) (slots + N) Q (F0 m (pc + 2) ls (.ref a :: rest))) : W p l e R s m args below meth c H locs cells slots Q (F0 m pc ls (.int n :: rest)) := by
  refine va_newaK (atype := .boolean) hC.1 hC.2.1 (hC.2.2.2.2.1 _ harr) rfl hdg rfl hn hN hbytes hcells hslots rfl fun H1 cA e1 z1 o1 hAr hNm => ?_
  have hq : cA = gZ G := Option.some.inj (hNm.symm.trans (hC.2.2.2.2.2.1.2 2 _ rfl).2)
  subst hq
  have h9 := kk H.size _ H1 (hd.alloc hr z1 o1 (by show H1[H.size]? = some (vp_cell _ _); rw [vp_cell_i]; exact e1))
  exact h9
theorem znewO (hC : Cx G p c m s args own cc nL) (hd : Dy G ad ow Z s H locs) {n : Int32} (N : Nat) {index : Nat} (hcl : Cond.classLink own index "java/lang/Object" ∈ TT) (hn : ¬ n < 0) (hN : n.toNatClampNeg = N) (hbytes : N * 4 ≤ 536870912) (r : Nat) (hr : r < xn Z 0 13) (hcells : cells + 1 ≤ R.cells) (hslots : slots + N ≤ R.slots) (hdg : decode cc pc = .ok (.anewarray index, 3))
    (kk : ∀ (a : Nat) (ow : Nat → Nat × Nat) (H1 : Heap), Dy G (upA ad 13 r a) ow (sr Z r (some (rfA (gO G) N (fun _ => none)))) s H1 locs → W p l e R s m args below meth c H1 locs (cells + 1) (slots + N) Q (F0 m (pc + 3) ls (.ref a :: rest))) : W p l e R s m args below meth c H locs cells slots Q (F0 m pc ls (.int n :: rest)) := by
  subst hN
  refine W.anew hC.1 hC.2.1 hC.2.2.2.1 (hC.2.2.2.2.1 _ hcl) (va_AO.use hC.2.2.2.2.2.2.2.1.1) rfl hdg rfl hn hbytes hcells hslots fun cA kA comp f1 f2 f3 f4 => ?_
  generalize hH1 : H.push ({ cls := cA, slots := Array.replicate n.toNatClampNeg .null, vm := .none } : Cell) = H1
  have z1 : H1.size = H.size + 1 := by rw [← hH1, Array.size_push]
  have e1 : H1[H.size]? = some (arrV cA n.toNatClampNeg (fun _ => .null)) := by rw [← hH1, Array.getElem?_push_size, ← arrV_new]
  have o1 : ∀ q : Nat, q < H.size → H1[q]? = H[q]? := fun q hq => by rw [← hH1, Array.getElem?_push, if_neg (Nat.ne_of_lt hq)]
  obtain ⟨-, -, -, -, -, hNm⟩ := (hC.2.2.2.2.2.1.2 3 _ rfl).2
  have hq : cA = gO G := Option.some.inj (f1.symm.trans hNm)
  subst hq
  have h9 := kk H.size _ H1 (hd.alloc hr z1 o1 (by show H1[H.size]? = some (vp_cell _ _); rw [vp_cell_q]; exact e1))
  exact h9
theorem znewP (hC : Cx G p c m s args own cc nL) (hd : Dy G ad ow Z s H locs) {n : Int32} (N : Nat) {index : Nat} (hcl : Cond.classLink own index "KeyGraph$Pile" ∈ TT) (hn : ¬ n < 0) (hN : n.toNatClampNeg = N) (hbytes : N * 4 ≤ 536870912) (r : Nat) (hr : r < xn Z 0 13) (hcells : cells + 1 ≤ R.cells) (hslots : slots + N ≤ R.slots) (hdg : decode cc pc = .ok (.anewarray index, 3))
    (kk : ∀ (a : Nat) (ow : Nat → Nat × Nat) (H1 : Heap), Dy G (upA ad 13 r a) ow (sr Z r (some (rfA (gP G) N (fun _ => none)))) s H1 locs → W p l e R s m args below meth c H1 locs (cells + 1) (slots + N) Q (F0 m (pc + 3) ls (.ref a :: rest))) : W p l e R s m args below meth c H locs cells slots Q (F0 m pc ls (.int n :: rest)) := by
  subst hN
  refine W.anew hC.1 hC.2.1 hC.2.2.2.1 (hC.2.2.2.2.1 _ hcl) (va_AO.use hC.2.2.2.2.2.2.2.1.2.1) rfl hdg rfl hn hbytes hcells hslots fun cA kA comp f1 f2 f3 f4 => ?_
  generalize hH1 : H.push ({ cls := cA, slots := Array.replicate n.toNatClampNeg .null, vm := .none } : Cell) = H1
  have z1 : H1.size = H.size + 1 := by rw [← hH1, Array.size_push]
  have e1 : H1[H.size]? = some (arrV cA n.toNatClampNeg (fun _ => .null)) := by rw [← hH1, Array.getElem?_push_size, ← arrV_new]
  have o1 : ∀ q : Nat, q < H.size → H1[q]? = H[q]? := fun q hq => by rw [← hH1, Array.getElem?_push, if_neg (Nat.ne_of_lt hq)]
  obtain ⟨-, -, -, -, -, hNm⟩ := (hC.2.2.2.2.2.1.2 4 _ rfl).2
  have hq : cA = gP G := Option.some.inj (f1.symm.trans hNm)
  subst hq
  have h9 := kk H.size _ H1 (hd.alloc hr z1 o1 (by show H1[H.size]? = some (vp_cell _ _); rw [vp_cell_q]; exact e1))
  exact h9
theorem znewK (hC : Cx G p c m s args own cc nL) (hd : Dy G ad ow Z s H locs) {n : Int32} (N : Nat) {index : Nat} (hcl : Cond.classLink own index "KeyGraph$Key" ∈ TT) (hn : ¬ n < 0) (hN : n.toNatClampNeg = N) (hbytes : N * 4 ≤ 536870912) (r : Nat) (hr : r < xn Z 0 13) (hcells : cells + 1 ≤ R.cells) (hslots : slots + N ≤ R.slots) (hdg : decode cc pc = .ok (.anewarray index, 3))
    (kk : ∀ (a : Nat) (ow : Nat → Nat × Nat) (H1 : Heap), Dy G (upA ad 13 r a) ow (sr Z r (some (rfA (gK G) N (fun _ => none)))) s H1 locs → W p l e R s m args below meth c H1 locs (cells + 1) (slots + N) Q (F0 m (pc + 3) ls (.ref a :: rest))) : W p l e R s m args below meth c H locs cells slots Q (F0 m pc ls (.int n :: rest)) := by
  subst hN
  refine W.anew hC.1 hC.2.1 hC.2.2.2.1 (hC.2.2.2.2.1 _ hcl) (va_AO.use hC.2.2.2.2.2.2.2.1.2.2) rfl hdg rfl hn hbytes hcells hslots fun cA kA comp f1 f2 f3 f4 => ?_
  generalize hH1 : H.push ({ cls := cA, slots := Array.replicate n.toNatClampNeg .null, vm := .none } : Cell) = H1
  have z1 : H1.size = H.size + 1 := by rw [← hH1, Array.size_push]
  have e1 : H1[H.size]? = some (arrV cA n.toNatClampNeg (fun _ => .null)) := by rw [← hH1, Array.getElem?_push_size, ← arrV_new]
  have o1 : ∀ q : Nat, q < H.size → H1[q]? = H[q]? := fun q hq => by rw [← hH1, Array.getElem?_push, if_neg (Nat.ne_of_lt hq)]
  obtain ⟨-, -, -, -, -, hNm⟩ := (hC.2.2.2.2.2.1.2 5 _ rfl).2
  have hq : cA = gK G := Option.some.inj (f1.symm.trans hNm)
  subst hq
  have h9 := kk H.size _ H1 (hd.alloc hr z1 o1 (by show H1[H.size]? = some (vp_cell _ _); rw [vp_cell_q]; exact e1))
  exact h9
/-- a final field, in a constructor -/
theorem zputF (hC : Cx G p c m s args own cc nL) (hnm9 : meth.name = "<init>") (hd : Dy G ad ow Z s H locs) {o i ci : Nat} {fs : List Value} (he : ent G ad Z o i = some (.inr (ci, fs))) {C : String} {T : u_T} {N : Nat} (hc : cls[ci]? = some (C, T, N)) (hin : ∀ w ∈ u_ws C T N, w ∈ TT) (ty0 : Nat → FieldType) (hty : ∀ k, k < N → parseFieldDescriptor (T k).2.2.1 = some (ty0 k)) (hnm : ∀ a, a < N → ∀ b, b < N → a ≠ b → (T a).2.1 ≠ (T b).2.1) (k : Nat) (hk : k < N) {index : Nat} (hlink : Cond.fieldLink own index own (T k).2.1 (T k).2.2.1 ∈ TT) (hdecl : (T k).1 = own) (hfin : (T k).2.2.2 = true) {v : Value} (hn : narrow (ty0 k) v = v) (hfit : fits (ty0 k) v = true) (hl : k < fs.length) (hU : Up G ad Z Z' o i (.inr (ci, fs.set k v))) (hdg : decode cc pc = .ok (.putfield index, 3))
    (kk : ∀ (H1 : Heap) (locs1 : List Loc), Dy G ad ow Z' s H1 locs1 → W p l e R s m args below meth c H1 locs1 cells slots Q (F0 m (pc + 3) ls rest)) : W p l e R s m args below meth c H locs cells slots Q (F0 m pc ls (v :: .ref (ad o i) :: rest)) := by
  obtain ⟨hexec, hb, -, hown, hts, hK, -⟩ := hC
  have hap := va_apart (own := own) hts hin ty0 hty hnm hK hc
  obtain ⟨r, h1, cell, q1, q2, q3, q4⟩ := (hd.1 o i _ he).1
  have hr : r = (C, T, N) := Option.some.inj (h1.symm.trans hc)
  subst hr
  obtain ⟨hS, hfc, kC, hkC, hkind⟩ := hK.1 ci _ hc
  obtain ⟨cf, kf, fi, f, hi, hsl⟩ := hS k hk
  have hlay := hts _ (hin _ (u_in_lay hk))
  unfold u_lay at hlay
  rw [if_pos hfin] at hlay
  have hst := (u_facts hfc hkC (u_lays hts hin hk) hi).1
  have hcf : m.cls = cf := by
    obtain ⟨_, _, c', _, _, _, -, -, hf', -, -, -, hown2, -⟩ := Cond.laysFinal_spec hlay
    have e1 : c' = cf := by have := hi.symm.trans hf'; simp at this; exact this.1.symm
    rw [hdecl] at hown2
    rw [← e1]; exact Option.some.inj (hown.symm.trans hown2)
  have h6 := u_fits hfc hkC hkind (Or.inr hlay) hi (hty k hk) hn hfit
  refine W.putFinK hexec hb hown (hts _ hlink) (by rw [hdecl] at hi; exact hi) hst hcf hnm9 (by rw [q2]; exact h6) q1 q3 (by rw [hsl]; exact k2_hasslot (q4 k hk)) rfl rfl hdg fun H' e1 e2 e3 => ?_
  rw [hsl] at e1 ⊢
  exact kk H' _ (hd.set he hU e2 ⟨_, hc, t_OB.to (V := updV (vp_V fs) k v) ⟨_, e1, q2, q3, t_set q4 hap hk v⟩ (fun j _ => vp_updV_set hl v j)⟩ e3)
theorem zobj (hC : Cx G p c m s args own cc nL) (hls : ls.size = nL) {a index : Nat} (hlink : Cond.methodLink own index Lib.objectInit ∈ TT) (hinst : Cond.instanceMethod Lib.objectInit ∈ TT) (hcode : Cond.code Lib.objectInit ⟨#[0xb1]⟩ 1 none ∈ TT) (hframes : 1 ≤ R.frames) (hlocals : (rest.map fun v => v.category).sum + 12 ≤ R.locals) (hdg : decode cc pc = .ok (.invokespecial index, 3))
    (kk : W p l e R s m args below meth c H locs cells slots Q (F0 m (pc + 3) ls rest)) : W p l e R s m args below meth c H locs cells slots Q (F0 m pc ls (.ref a :: rest)) :=
  W.objInit hC.1 hC.2.1 hC.2.2.2.1 (hC.2.2.2.2.1 _ hlink) (hC.2.2.2.2.1 _ hinst) (hC.2.2.2.2.1 _ hcode) rfl (hls.trans hC.2.2.1.symm) rfl hdg hframes (by show 2 * 0 + _ + 12 ≤ _; omega) kk
theorem zgetsE (hC : Cx G p c m s args own cc nL) (hd : Dy G ad ow Z s H locs) {index : Nat} (hlink : Cond.fieldLink own index "java/util/ArrayList" "DEFAULTCAPACITY_EMPTY_ELEMENTDATA" "[Ljava/lang/Object;" ∈ TT) (hdg : decode cc pc = .ok (.getstatic index, 3))
    (kk : W p l e R s m args below meth c H locs cells slots Q (F0 m (pc + 3) ls (.ref (ge G) :: rest))) : W p l e R s m args below meth c H locs cells slots Q (F0 m pc ls rest) :=
  va_gets hC.1 hC.2.1 hC.2.2.2.2.2.2.2.2.1 hd.2.1 hC.2.2.2.1 (hC.2.2.2.2.1 _ hlink) (fun x h => h) hdg kk
variable {y : MethodName} {bytes : ByteArray} {maxL mc ms n index : Nat} {rm : Room} {Qc : Array Value → State → Outcome → State → Prop} {As st0 : List Value} {b : Nat} {host : String}
theorem zrunI (hC : Cx G p c m s args own cc nL) (hd : Dy G ad ow Z s H locs) (hM : Met l y (Cond.code y bytes maxL none :: TT) rm (zPc G ad ow Z (.ref b :: As)) Qc mc ms (zA G)) (h1 : Cond.methodLink own index y ∈ TT) (h2 : Cond.instanceMethod y ∈ TT) (h4 : Cond.initialized y.cls ∈ TT) (h5 : Cond.code y bytes maxL none ∈ TT) (hy1 : y.name = "<init>") (hrc : rm.cells = mc) (hrs : rm.slots = ms) (hn : As.length = n)
    (hdd : y.cls ≠ "java/lang/invoke/MethodHandle" ∧ y.cls ≠ "java/lang/invoke/VarHandle" ∧ (parseMethodDescriptor y.desc).map (fun d => d.parameters.length) = some n) (hR : rm.frames + 1 ≤ R.frames ∧ 8 + (maxL + 11) + rm.locals ≤ R.locals) (hstack : st0 = As.reverse ++ .ref b :: rest) (hls : ls.size = nL) (hW : (rest.map fun v => v.category).sum ≤ 8) (hdg : decode cc pc = .ok (.invokespecial index, 3)) (hf : cells + mc ≤ R.cells ∧ slots + ms ≤ R.slots) :
    va_Run p l e R s m args below meth c H locs cells slots mc ms (F0 m pc ls st0) rest (Qc (Value.ref b :: As).toArray) (zA G) :=
  va_runI (As := As) (rest := rest) ⟨hC.1, hC.2.1, hC.2.2.1, hC.2.2.2.1, hC.2.2.2.2.1⟩ hM (cwI n hC.2.2.2.2.1 (gd_TT h5) rfl hrc hrs (hC.2.2.2.2.1 _ h4) (hC.2.2.2.2.1 _ h1) (hC.2.2.2.2.1 _ h2) hy1 hdd hR) ⟨zPc.blind, fun U hU hW => zPc.of hC hd _ U hU hW⟩ rfl hn hls hstack (lv_room hW) hdg hf
theorem zrunIN (hC : Cx G p c m s args own cc nL) (hd : Dy G ad ow Z s H locs) (hM : Met l y (Cond.code y bytes maxL none :: TT) rm (zPc G ad ow Z (.ref b :: As)) Qc mc ms (zA G)) (h1 : Cond.methodLinkNest own index y host ∈ NW) (h2 : Cond.instanceMethod y ∈ TT) (h4 : Cond.initialized y.cls ∈ TT) (h5 : Cond.code y bytes maxL none ∈ TT) (hy1 : y.name = "<init>") (hrc : rm.cells = mc) (hrs : rm.slots = ms) (hn : As.length = n)
    (hdd : y.cls ≠ "java/lang/invoke/MethodHandle" ∧ y.cls ≠ "java/lang/invoke/VarHandle" ∧ (parseMethodDescriptor y.desc).map (fun d => d.parameters.length) = some n) (hR : rm.frames + 1 ≤ R.frames ∧ 8 + (maxL + 11) + rm.locals ≤ R.locals) (hstack : st0 = As.reverse ++ .ref b :: rest) (hls : ls.size = nL) (hW : (rest.map fun v => v.category).sum ≤ 8) (hdg : decode cc pc = .ok (.invokespecial index, 3)) (hf : cells + mc ≤ R.cells ∧ slots + ms ≤ R.slots) :
    va_Run p l e R s m args below meth c H locs cells slots mc ms (F0 m pc ls st0) rest (Qc (Value.ref b :: As).toArray) (zA G) :=
  va_runIN (As := As) (rest := rest) ⟨hC.1, hC.2.1, hC.2.2.1, hC.2.2.2.1, hC.2.2.2.2.1⟩ hM ⟨va_cnB n hC.2.2.2.2.1 (gd_TT h5) rfl hrc hrs (hC.2.2.2.2.2.2.1 _ h1) (hC.2.2.2.2.1 _ h4) hdd hR, hy1, hC.2.2.2.2.1 _ h2⟩ ⟨zPc.blind, fun U hU hW => zPc.of hC hd _ U hU hW⟩ rfl hn hls hstack (lv_room hW) hdg hf
/-- the end of a method, with another world -/
theorem zretg {post : (Nat → Nat → Nat) → (Nat → Nat × Nat) → Zt → Option Value → Prop} (hd : Dy G ad ow Z s H locs) {v : Option Value} (hp : post ad ow Z v) : ∀ t : State, t.heap = H → s.WarmedH t.vm → Qg G post args s (.returned v) t :=
  fun t ht _ => ⟨ad, ow, Z, v, rfl, hp, by rw [ht]; exact hd.1, hd.2.1.F ht⟩
variable {post : (Nat → Nat → Nat) → (Nat → Nat × Nat) → Zt → Option Value → Prop}
theorem zgi {x : Int32} (hC : Cx G p c m s args own cc nL) (hd : Dy G ad ow Z s H locs) (hr : meth.sig.returnType = some .int) (hlk : meth.locks = false) (hdg : decode cc pc = .ok (.ireturn, 1)) (hp : post ad ow Z (some (.int x))) (h1 : cells ≤ mc) (h2 : slots ≤ ms) : W p l e R s m args below meth c H locs cells slots (MQ below (Qg G post) args s mc ms (zA G)) (F0 m pc ls [.int x]) :=
  W.widen h1 h2 (W.iret hC.1 hC.2.1 hr (zretg hd hp) hd.2.1.2.2 hdg hlk)
theorem zgz {x : Int32} (hC : Cx G p c m s args own cc nL) (hd : Dy G ad ow Z s H locs) (hr : meth.sig.returnType = some .boolean) (hlk : meth.locks = false) (hdg : decode cc pc = .ok (.ireturn, 1)) (hn : x = 0 ∨ x = 1) (hp : post ad ow Z (some (.int x))) (h1 : cells ≤ mc) (h2 : slots ≤ ms) : W p l e R s m args below meth c H locs cells slots (MQ below (Qg G post) args s mc ms (zA G)) (F0 m pc ls [.int x]) :=
  W.widen h1 h2 (W.zret hC.1 hC.2.1 hr (by rcases hn with rfl | rfl <;> decide) (zretg hd hp) hd.2.1.2.2 hdg hlk)
theorem zgv (hC : Cx G p c m s args own cc nL) (hd : Dy G ad ow Z s H locs) (hr : meth.sig.returnType = none) (hlk : meth.locks = false) (hdg : decode cc pc = .ok (.return_, 1)) (hp : post ad ow Z none) (h1 : cells ≤ mc) (h2 : slots ≤ ms) : W p l e R s m args below meth c H locs cells slots (MQ below (Qg G post) args s mc ms (zA G)) (F0 m pc ls []) :=
  W.widen h1 h2 (W.vret hC.1 hC.2.1 hr (zretg hd hp) hd.2.1.2.2 hdg hlk)
theorem zga {x : Nat} {rt : FieldType} (hC : Cx G p c m s args own cc nL) (hd : Dy G ad ow Z s H locs) (hr : meth.sig.returnType = some rt) (hrt : (∃ n, rt = .object n) ∨ ∃ t, rt = .array t) (hlk : meth.locks = false) (hdg : decode cc pc = .ok (.areturn, 1)) (hp : post ad ow Z (some (.ref x))) (h1 : cells ≤ mc) (h2 : slots ≤ ms) : W p l e R s m args below meth c H locs cells slots (MQ below (Qg G post) args s mc ms (zA G)) (F0 m pc ls [.ref x]) :=
  W.widen h1 h2 (W.aret hC.1 hC.2.1 hr hrt (Or.inr ⟨_, rfl⟩) (zretg hd hp) hd.2.1.2.2 hdg hlk)
end
