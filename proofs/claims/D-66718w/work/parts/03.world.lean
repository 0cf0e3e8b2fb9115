/-! the pure state: tables of ints, of longs, of naturals, of contents -/
abbrev Zt : Type := (Nat → Nat → Int32) × (Nat → Nat → Int64) × (Nat → Nat → Nat) × (Nat → Nat → Nat → Nat) × (Nat → Option va_E)
def xi (Z : Zt) (t i : Nat) : Int32 := Z.1 t i
def xl (Z : Zt) (t i : Nat) : Int64 := Z.2.1 t i
def xn (Z : Zt) (t i : Nat) : Nat := Z.2.2.1 t i
def xc (Z : Zt) (c i j : Nat) : Nat := Z.2.2.2.1 c i j
def xr (Z : Zt) (i : Nat) : Option va_E := Z.2.2.2.2 i
def si (Z : Zt) (t i : Nat) (v : Int32) : Zt := (fun a b => if a = t ∧ b = i then v else Z.1 a b, Z.2)
def sl (Z : Zt) (t i : Nat) (v : Int64) : Zt := (Z.1, fun a b => if a = t ∧ b = i then v else Z.2.1 a b, Z.2.2)
def sn (Z : Zt) (t i : Nat) (v : Nat) : Zt := (Z.1, Z.2.1, fun a b => if a = t ∧ b = i then v else Z.2.2.1 a b, Z.2.2.2)
def sc (Z : Zt) (c i j : Nat) (v : Nat) : Zt := (Z.1, Z.2.1, Z.2.2.1, fun a b d => if a = c ∧ b = i ∧ d = j then v else Z.2.2.2.1 a b d, Z.2.2.2.2)
/-- an object that is being made -/
def sr (Z : Zt) (i : Nat) (v : Option va_E) : Zt := (Z.1, Z.2.1, Z.2.2.1, Z.2.2.2.1, fun a => if a = i then v else Z.2.2.2.2 a)
section
variable (Z : Zt) (t i a b j d : Nat) (vi : Int32) (vl : Int64) (vn : Nat) (vr : Option va_E)
theorem xi_sr : xi (sr Z t vr) a b = xi Z a b := rfl
theorem xl_sr : xl (sr Z t vr) a b = xl Z a b := rfl
theorem xn_sr : xn (sr Z t vr) a b = xn Z a b := rfl
theorem xc_sr : xc (sr Z t vr) a b d = xc Z a b d := rfl
theorem xr_si : xr (si Z t i vi) a = xr Z a := rfl
theorem xr_sl : xr (sl Z t i vl) a = xr Z a := rfl
theorem xr_sn : xr (sn Z t i vn) a = xr Z a := rfl
theorem xr_sc : xr (sc Z t i j vn) a = xr Z a := rfl
theorem xr_sr : xr (sr Z t vr) a = if a = t then vr else xr Z a := rfl
theorem xi_si : xi (si Z t i vi) a b = if a = t ∧ b = i then vi else xi Z a b := rfl
theorem xi_sl : xi (sl Z t i vl) a b = xi Z a b := rfl
theorem xi_sn : xi (sn Z t i vn) a b = xi Z a b := rfl
theorem xi_sc : xi (sc Z t i j vn) a b = xi Z a b := rfl
theorem xl_si : xl (si Z t i vi) a b = xl Z a b := rfl
theorem xl_sl : xl (sl Z t i vl) a b = if a = t ∧ b = i then vl else xl Z a b := rfl
theorem xl_sn : xl (sn Z t i vn) a b = xl Z a b := rfl
theorem xl_sc : xl (sc Z t i j vn) a b = xl Z a b := rfl
theorem xn_si : xn (si Z t i vi) a b = xn Z a b := rfl
theorem xn_sl : xn (sl Z t i vl) a b = xn Z a b := rfl
theorem xn_sn : xn (sn Z t i vn) a b = if a = t ∧ b = i then vn else xn Z a b := rfl
theorem xn_sc : xn (sc Z t i j vn) a b = xn Z a b := rfl
theorem xc_si : xc (si Z t i vi) a b d = xc Z a b d := rfl
theorem xc_sl : xc (sl Z t i vl) a b d = xc Z a b d := rfl
theorem xc_sn : xc (sn Z t i vn) a b d = xc Z a b d := rfl
theorem xc_sc : xc (sc Z t i j vn) a b d = if a = t ∧ b = i ∧ d = j then vn else xc Z a b d := rfl
end
/-! what is given once: class numbers, the heap's size at the law's entry, ArrayList's empty array, the mirror of Object[] -/
abbrev Gt : Type := va_G × (ClassId × ClassId × ClassId × ClassId × ClassId × ClassId) × (Nat × Nat × Nat)
abbrev gD (G : Gt) : va_G := G.1
abbrev gI (G : Gt) : ClassId := G.2.1.1
abbrev gL (G : Gt) : ClassId := G.2.1.2.1
abbrev gZ (G : Gt) : ClassId := G.2.1.2.2.1
abbrev gO (G : Gt) : ClassId := G.2.1.2.2.2.1
abbrev gP (G : Gt) : ClassId := G.2.1.2.2.2.2.1
abbrev gK (G : Gt) : ClassId := G.2.1.2.2.2.2.2
abbrev gb (G : Gt) : Nat := G.2.2.1
abbrev ge (G : Gt) : Nat := G.2.2.2.1
abbrev gm (G : Gt) : Nat := G.2.2.2.2
abbrev tys (G : Gt) : List (ClassId × FieldType) := [(gI G, .int), (gL G, .long), (gZ G, .boolean), (gO G, .object "java/lang/Object"), (gP G, .object "KeyGraph$Pile"), (gK G, .object "KeyGraph$Key")]
def zA (G : Gt) : Nat → Prop := fun q => gb G ≤ q
abbrev inA (cA : ClassId) (n : Nat) (f : Nat → Int32) : va_E := .inl (cA, n, .inl f)
abbrev lnA (cA : ClassId) (n : Nat) (f : Nat → Int64) : va_E := .inl (cA, n, .inr (.inl f))
abbrev rfA (cA : ClassId) (n : Nat) (f : Nat → Option Nat) : va_E := .inl (cA, n, .inr (.inr (.inr (.inr f))))
/-! the entities: kind o, index i -/
abbrev kgF (ad : Nat → Nat → Nat) (Z : Zt) : List Value := [.ref (ad 3 0), .ref (ad 8 0), .ref (ad 3 1), .int (xi Z 14 0), .ref (ad 9 0)]
abbrev keyF (ad : Nat → Nat → Nat) (Z : Zt) (k : Nat) : List Value := [.int (nI k), va_rf (if xn Z 1 k = 6 then none else some (ad 2 k)), .ref (ad 3 (k + 2)), .int (xi Z 1 k), .long (xl Z 1 k), .int (xi Z 2 k), .int (xi Z 3 k), .int (xi Z 4 k), .int (xi Z 5 k), .int (xi Z 6 k), .int (xi Z 7 k), .ref (ad 5 (xn Z 7 k)), .ref (ad 5 (xn Z 8 k)), .int (nI (xn Z 4 k)), .int (nI (xn Z 5 k)), .int (xi Z 8 k), .int (nI (xn Z 6 k)), .int (xi Z 9 k)]
abbrev fnF (Z : Zt) (k : Nat) : List Value := [.int (xi Z 10 k), .int (xi Z 11 k), .long (xl Z 2 k), .int (xi Z 12 k)]
def fnE (Z : Zt) (k : Nat) : Option va_E := match xn Z 1 k with
  | 0 => some (.inr (2, fnF Z k ++ [.int 0]))
  | 1 => some (.inr (3, fnF Z k))
  | 2 => some (.inr (4, fnF Z k ++ [.int (xi Z 13 k)]))
  | 3 => some (.inr (5, fnF Z k))
  | 4 => some (.inr (2, fnF Z k ++ [.int 1]))
  | 5 => some (.inr (6, fnF Z k))
  | _ => none
abbrev listF (G : Gt) (ad : Nat → Nat → Nat) (Z : Zt) (i : Nat) : List Value := [.int (xi Z 16 i), .ref (if xn Z 3 i = 0 then ge G else ad 4 i), .int (nI (xn Z 2 i))]
abbrev elemF (ad : Nat → Nat → Nat) (Z : Zt) (i : Nat) : Nat → Option Nat := fun j => if xc Z 4 i j = 0 then none else some (ad 1 (xc Z 4 i j - 1))
abbrev pileA (ad : Nat → Nat → Nat) (Z : Zt) (p : Nat) : Nat → Option Nat := fun j => if xc Z 7 p j = 0 then none else some (ad 1 (xc Z 7 p j - 1))
abbrev modF (ad : Nat → Nat → Nat) (Z : Zt) : List Value := [.int (xi Z 20 0), .int (xi Z 21 0), .int (nI (xn Z 20 0)), .ref (ad 11 3), .ref (ad 11 4), .ref (ad 11 5), .ref (ad 11 6), .ref (ad 11 7), .ref (ad 11 8), .ref (ad 11 9), .ref (ad 11 10), .ref (ad 11 11), .ref (ad 11 12), .ref (ad 11 13), .ref (ad 11 14), .ref (ad 11 15), .ref (ad 11 16), .ref (ad 11 17), .ref (ad 11 18), .ref (ad 11 19), .ref (ad 11 20), .ref (ad 11 21), .ref (ad 11 22), .int (nI (xn Z 21 0)), .ref (ad 11 24)]
def modE (G : Gt) (Z : Zt) (f : Nat) : Option va_E := match f with
  | 3 => some (inA (gI G) 40 (xi Z 503))
  | 4 => some (inA (gI G) 40 (fun j => nI (xn Z 504 j)))
  | 5 => some (inA (gI G) 320 (fun j => nI (xn Z 505 j)))
  | 6 => some (inA (gI G) 40 (xi Z 506))
  | 7 => some (inA (gI G) 40 (xi Z 507))
  | 8 => some (inA (gI G) 40 (xi Z 508))
  | 9 => some (inA (gI G) 40 (xi Z 509))
  | 10 => some (inA (gI G) 40 (fun j => nI (xn Z 510 j)))
  | 11 => some (inA (gI G) 320 (fun j => nI (xn Z 511 j)))
  | 12 => some (inA (gI G) 40 (xi Z 512))
  | 13 => some (inA (gI G) 40 (xi Z 513))
  | 14 => some (lnA (gL G) 40 (xl Z 514))
  | 15 => some (inA (gZ G) 40 (xi Z 515))
  | 16 => some (inA (gZ G) 40 (xi Z 516))
  | 17 => some (inA (gI G) 5 (fun j => nI (xn Z 517 j)))
  | 18 => some (inA (gI G) 200 (fun j => nI (xn Z 518 j)))
  | 19 => some (inA (gI G) 200 (fun j => nI (xn Z 519 j)))
  | 20 => some (inA (gI G) 1600 (fun j => nI (xn Z 520 j)))
  | 21 => some (inA (gZ G) 200 (xi Z 521))
  | 22 => some (inA (gI G) 40 (fun j => nI (xn Z 522 j)))
  | 24 => some (inA (gZ G) 40 (xi Z 524))
  | _ => none
def ent (G : Gt) (ad : Nat → Nat → Nat) (Z : Zt) (o i : Nat) : Option va_E := if i < xn Z 0 o then (match o with
  | 0 => if i = 0 then some (.inr (0, kgF ad Z)) else none
  | 1 => some (.inr (1, keyF ad Z i))
  | 2 => fnE Z i
  | 3 => some (.inr (8, listF G ad Z i))
  | 4 => if xn Z 3 i = 0 then none else some (rfA (gO G) (xn Z 3 i) (elemF ad Z i))
  | 5 => some (inA (gI G) 8 (fun j => nI (xc Z 5 i j)))
  | 6 => some (.inr (7, [.ref (ad 7 i), .int (nI (xn Z 9 i))]))
  | 7 => some (rfA (gK G) 40 (pileA ad Z i))
  | 8 => if i = 0 then some (rfA (gP G) 5 (fun j => some (ad 6 j))) else none
  | 9 => if i = 0 then some (inA (gZ G) 40 (xi Z 15)) else none
  | 10 => if i = 0 then some (.inr (9, modF ad Z)) else none
  | 11 => modE G Z i
  | 12 => if i = 0 then some (lnA (gL G) 1 (xl Z 3)) else none
  | 13 => xr Z i
  | _ => none) else none
/-- the heap holds the pure state -/
def HP (G : Gt) (ad : Nat → Nat → Nat) (ow : Nat → Nat × Nat) (Z : Zt) (H : Heap) : Prop := ∀ (o i : Nat) (e : va_E), ent G ad Z o i = some e → va_at (gD G) cls (ad o i, e) H ∧ gb G ≤ ad o i ∧ ow (ad o i) = (o, i)
/-- a static of Throwable's is laid -/
def zLS (n d : String) (A : Nat → Prop) (U : State) (H : Heap) : Prop := ∃ (c : ClassId) (k : Class) (i : Nat) (f : Field) (a : Nat) (cell : Cell), U.vm.findClass "java/lang/Throwable" = some c ∧ U.fieldFound? "java/lang/Throwable" n d = some (c, k, i, f) ∧ f.isStatic = true ∧ k.statics = some a ∧ k.staticTypes[f.slot]? = some f.type ∧ H[a]? = some cell ∧ cell.vm.isStatics = true ∧ cell.cls = c ∧ f.slot < cell.slots.size ∧ ¬ A a
theorem zLS.moved {n d : String} {A : Nat → Prop} {u U : State} {H : Heap} (hvm : u.vm.Alike U.vm) (h : zLS n d A u H) : zLS n d A U H := by
  obtain ⟨c, k, i, f, a, cell, h0, h1, h2, h3, h4, h5⟩ := h
  obtain ⟨k', hi', he⟩ := State.fieldFound?_setVm hvm h1
  exact ⟨c, k', i, f, a, cell, by rw [hvm.findClass]; exact h0, hi', h2, by rw [he]; exact h3, by rw [he]; exact h4, h5⟩
theorem zLS.kept {n d : String} {A : Nat → Prop} {U : State} {H H1 : Heap} (h : zLS n d A U H) (hq : ∀ a : Nat, a < H.size → ¬ A a → H1[a]? = H[a]?) : zLS n d A U H1 := by
  obtain ⟨c, k, i, f, a, cell, h0, h1, h2, h3, h4, h5, h6, h7, h8, h9⟩ := h
  exact ⟨c, k, i, f, a, cell, h0, h1, h2, h3, h4, by rw [hq a (Array.getElem?_eq_some_iff.mp h5).1 h9]; exact h5, h6, h7, h8, h9⟩
/-- one exception's class is not the other's -/
def zNC (U : State) : Prop := ∃ (c0 c1 : ClassId), U.vm.findClass "java/lang/IllegalStateException" = some c0 ∧ U.vm.findClass "java/lang/IllegalArgumentException" = some c1 ∧ U.vm.assignable c0 c1 = false
theorem zNC.moved {u U : State} (hvm : u.vm.Alike U.vm) (h : zNC u) : zNC U := by
  obtain ⟨c0, c1, h0, h1, h2⟩ := h
  exact ⟨c0, c1, by rw [hvm.findClass]; exact h0, by rw [hvm.findClass]; exact h1, by rw [hvm.assignable]; exact h2⟩
/-- what of the surroundings a method takes as given -/
def EV (G : Gt) (U : State) : Prop := va_K (gD G) cls (tys G) U ∧ (∀ w ∈ NW, va_Nw w U) ∧ (va_AO "java/lang/Object" U ∧ va_AO "KeyGraph$Pile" U ∧ va_AO "KeyGraph$Key" U) ∧
  va_Z "java/util/ArrayList" "DEFAULTCAPACITY_EMPTY_ELEMENTDATA" "[Ljava/lang/Object;" (.ref (ge G)) (zA G) U U.heap ∧ va_T (.object "java/lang/Object") (ge G) 0 (fun _ => .null) (zA G) U U.heap ∧
  (va_Zq "java/lang/Throwable" "UNASSIGNED_STACK" "[Ljava/lang/StackTraceElement;" (zA G) U U.heap ∧ zLS "UNASSIGNED_STACK" "[Ljava/lang/StackTraceElement;" (zA G) U U.heap) ∧ (va_Zq "java/lang/Throwable" "SUPPRESSED_SENTINEL" "Ljava/util/List;" (zA G) U U.heap ∧ zLS "SUPPRESSED_SENTINEL" "Ljava/util/List;" (zA G) U U.heap ∧ zNC U) ∧
  va_Mi "[Ljava/lang/Object;" (gm G) U ∧ gb G ≤ U.heap.size
def Dy (G : Gt) (ad : Nat → Nat → Nat) (ow : Nat → Nat × Nat) (Z : Zt) (s : State) (H : Heap) (locs : List Loc) : Prop := HP G ad ow Z H ∧ va_S (zA G) s.heap H locs ∧ gb G ≤ s.heap.size
def Cx (G : Gt) (p : Program) (c : Code) (m : MethodId) (s : State) (args : Array Value) (own : String) (cc : ByteArray) (nL : Nat) : Prop := p.tables.exec = Jvm.exec ∧ c.code = cc ∧ c.maxLocals = nL ∧ s.vm.findClass own = some m.cls ∧ (∀ w ∈ TT, w.before args s = true) ∧ EV G s
/-- the state Z' is Z but for one entity -/
def Up (G : Gt) (ad : Nat → Nat → Nat) (Z Z' : Zt) (o i : Nat) (e : va_E) : Prop := ent G ad Z' o i = some e ∧ ∀ o' i', ¬ (o' = o ∧ i' = i) → ent G ad Z' o' i' = ent G ad Z o' i'
def nwK : Cond → Bool
  | .methodLinkNest .. => true
  | .fieldLinkNest .. => true
  | .declares _ => true
  | .castable .. => true
  | _ => false
theorem nwK_all : NW.all nwK = true := rfl
theorem nwT_all : NW.all Cond.onTables = true := rfl
theorem nw_warm {s U : State} (hW : s.WarmedH U.vm) (h : ∀ w ∈ NW, va_Nw w s) : ∀ w ∈ NW, va_Nw w U := by
  intro w hw
  have h0 := h w hw
  have hk : nwK w = true := List.all_eq_true.mp nwK_all w hw
  cases w <;> first | (cases hk; done) | exact va_Nw.warmM hW h0 | exact va_Nw.warmF hW h0 | exact va_Nw.warmD hW h0 | exact va_Nw.warmC hW h0
theorem nw_same {u U : State} (hv : u.vm = U.vm) (h : ∀ w ∈ NW, va_Nw w u) : ∀ w ∈ NW, va_Nw w U := by
  intro w hw
  have h0 := h w hw
  have hk : w.onTables = true := List.all_eq_true.mp nwT_all w hw
  exact va_Nw.same hk hv h0
theorem EV.calling {G : Gt} {U : State} (h : EV G U) (g : JFrame) (mk : MethodId) (a : Array Value) : EV G (U.calling g mk a) := by
  obtain ⟨h1, h2, ⟨h3, h3a, h3b⟩, h4, h5, ⟨h6, h6a⟩, ⟨h7, h7a, h7b⟩, h8, h9⟩ := h
  have al : U.vm.Alike (U.calling g mk a).vm := Vm.Alike.refl U.vm
  exact ⟨va_K.moved (u := U) (U := U.calling g mk a) al h1, nw_same (u := U) (U := U.calling g mk a) rfl h2, ⟨va_AO.moved (u := U) (U := U.calling g mk a) al h3, va_AO.moved (u := U) (U := U.calling g mk a) al h3a, va_AO.moved (u := U) (U := U.calling g mk a) al h3b⟩, va_Z.moved (u := U) (U := U.calling g mk a) al h4, va_T.moved (u := U) (U := U.calling g mk a) al h5, ⟨va_Zq.moved (u := U) (U := U.calling g mk a) al h6, zLS.moved (u := U) (U := U.calling g mk a) al h6a⟩, ⟨va_Zq.moved (u := U) (U := U.calling g mk a) al h7, zLS.moved (u := U) (U := U.calling g mk a) al h7a, zNC.moved (u := U) (U := U.calling g mk a) al h7b⟩, va_Mi.moved (u := U) (U := U.calling g mk a) al h8, h9⟩
theorem EV.warm {G : Gt} {s U : State} {H : Heap} {locs : List Loc} (h : EV G s) (hS : va_S (zA G) s.heap H locs) (hU : U.heap = H) (hW : s.WarmedH U.vm) : EV G U := by
  obtain ⟨h1, h2, ⟨h3, h3a, h3b⟩, h4, h5, ⟨h6, h6a⟩, ⟨h7, h7a, h7b⟩, h8, h9⟩ := h
  have al := hW.alike
  have hq : ∀ a : Nat, a < s.heap.size → ¬ zA G a → U.heap[a]? = s.heap[a]? := fun a ha hn => by rw [hU]; exact hS.2.1 a ha hn
  exact ⟨va_K.moved al h1, nw_warm hW h2, ⟨va_AO.moved al h3, va_AO.moved al h3a, va_AO.moved al h3b⟩, (va_Z.moved al h4).kept hq, (va_T.moved al h5).kept hq, ⟨(va_Zq.moved al h6).kept hq, (zLS.moved al h6a).kept hq⟩, ⟨(va_Zq.moved al h7).kept hq, (zLS.moved al h7a).kept hq, zNC.moved al h7b⟩, va_Mi.moved al h8, by rw [hU]; exact Nat.le_trans h9 hS.1⟩
theorem HP.set {G : Gt} {ad : Nat → Nat → Nat} {ow : Nat → Nat × Nat} {Z Z' : Zt} {H H1 : Heap} {o i : Nat} {e0 e1 : va_E} (h : HP G ad ow Z H) (he : ent G ad Z o i = some e0) (hU : Up G ad Z Z' o i e1) (ha : va_at (gD G) cls (ad o i, e1) H1) (oq : ∀ q : Nat, q ≠ ad o i → H1[q]? = H[q]?) : HP G ad ow Z' H1 := by
  have h0 := h o i e0 he
  intro o' i' e' he'
  by_cases hc : o' = o ∧ i' = i
  · obtain ⟨rfl, rfl⟩ := hc
    cases hU.1.symm.trans he'
    exact ⟨ha, h0.2⟩
  · rw [hU.2 o' i' hc] at he'
    have h1 := h o' i' e' he'
    refine ⟨h1.1.kept (oq _ fun z => hc ?_), h1.2⟩
    have z1 := h1.2.2
    have z2 := h0.2.2
    have z3 : ad o' i' = ad o i := z
    rw [z3, z2] at z1
    cases z1
    exact ⟨rfl, rfl⟩
theorem Dy.set {G : Gt} {ad : Nat → Nat → Nat} {ow : Nat → Nat × Nat} {Z Z' : Zt} {s : State} {H H1 : Heap} {locs : List Loc} {o i k : Nat} {e0 e1 : va_E} (h : Dy G ad ow Z s H locs) (he : ent G ad Z o i = some e0) (hU : Up G ad Z Z' o i e1) (hz : H1.size = H.size) (ha : va_at (gD G) cls (ad o i, e1) H1) (oq : ∀ q : Nat, q ≠ ad o i → H1[q]? = H[q]?) : Dy G ad ow Z' s H1 (locs ++ [⟨ad o i, k⟩]) :=
  ⟨h.1.set he hU ha oq, h.2.1.put hz oq (h.1 o i e0 he).2.1, h.2.2⟩
theorem HP.kept {G : Gt} {ad : Nat → Nat → Nat} {ow : Nat → Nat × Nat} {Z : Zt} {H H1 : Heap} (h : HP G ad ow Z H) (oq : ∀ q : Nat, q < H.size → H1[q]? = H[q]?) : HP G ad ow Z H1 := fun o i e he => ⟨(h o i e he).1.kept (oq _ (h o i e he).1.lt), (h o i e he).2⟩
theorem HP.one {G : Gt} {ad : Nat → Nat → Nat} {ow : Nat → Nat × Nat} {Z : Zt} {H : Heap} (h : HP G ad ow Z H) {o i : Nat} {e : va_E} (he : ent G ad Z o i = some e) : va_P (gD G) cls [(ad o i, e)] H := by
  intro k q hk
  match k, hk with
  | 0, hk => cases hk; exact (h o i e he).1
  | k + 1, hk => simp at hk

section
variable {G : Gt} {ad : Nat → Nat → Nat} {Z : Zt}
theorem e_kg (h : 0 < xn Z 0 0) : ent G ad Z 0 0 = some (.inr (0, kgF ad Z)) := (if_pos h).trans (if_pos rfl)
theorem e_key {k : Nat} (h : k < xn Z 0 1) : ent G ad Z 1 k = some (.inr (1, keyF ad Z k)) := if_pos h
theorem e_fn {k : Nat} (h : k < xn Z 0 2) : ent G ad Z 2 k = fnE Z k := if_pos h
theorem e_list {k : Nat} (h : k < xn Z 0 3) : ent G ad Z 3 k = some (.inr (8, listF G ad Z k)) := if_pos h
theorem e_elem {k : Nat} (h : k < xn Z 0 4) (hc : xn Z 3 k ≠ 0) : ent G ad Z 4 k = some (rfA (gO G) (xn Z 3 k) (elemF ad Z k)) := (if_pos h).trans (if_neg hc)
theorem e_arr {k : Nat} (h : k < xn Z 0 5) : ent G ad Z 5 k = some (inA (gI G) 8 (fun j => nI (xc Z 5 k j))) := if_pos h
theorem e_pile {k : Nat} (h : k < xn Z 0 6) : ent G ad Z 6 k = some (.inr (7, [.ref (ad 7 k), .int (nI (xn Z 9 k))])) := if_pos h
theorem e_pka {k : Nat} (h : k < xn Z 0 7) : ent G ad Z 7 k = some (rfA (gK G) 40 (pileA ad Z k)) := if_pos h
theorem e_piles (h : 0 < xn Z 0 8) : ent G ad Z 8 0 = some (rfA (gP G) 5 (fun j => some (ad 6 j))) := (if_pos h).trans (if_pos rfl)
theorem e_leads (h : 0 < xn Z 0 9) : ent G ad Z 9 0 = some (inA (gZ G) 40 (xi Z 15)) := (if_pos h).trans (if_pos rfl)
theorem e_mod (h : 0 < xn Z 0 10) : ent G ad Z 10 0 = some (.inr (9, modF ad Z)) := (if_pos h).trans (if_pos rfl)
theorem e_out (h : 0 < xn Z 0 12) : ent G ad Z 12 0 = some (lnA (gL G) 1 (xl Z 3)) := (if_pos h).trans (if_pos rfl)
theorem e_m3 (h : 25 ≤ xn Z 0 11) : ent G ad Z 11 3 = some (inA (gI G) 40 (xi Z 503)) := if_pos (Nat.lt_of_lt_of_le (by decide) h)
theorem e_m4 (h : 25 ≤ xn Z 0 11) : ent G ad Z 11 4 = some (inA (gI G) 40 (fun j => nI (xn Z 504 j))) := if_pos (Nat.lt_of_lt_of_le (by decide) h)
theorem e_m5 (h : 25 ≤ xn Z 0 11) : ent G ad Z 11 5 = some (inA (gI G) 320 (fun j => nI (xn Z 505 j))) := if_pos (Nat.lt_of_lt_of_le (by decide) h)
theorem e_m6 (h : 25 ≤ xn Z 0 11) : ent G ad Z 11 6 = some (inA (gI G) 40 (xi Z 506)) := if_pos (Nat.lt_of_lt_of_le (by decide) h)
theorem e_m7 (h : 25 ≤ xn Z 0 11) : ent G ad Z 11 7 = some (inA (gI G) 40 (xi Z 507)) := if_pos (Nat.lt_of_lt_of_le (by decide) h)
theorem e_m8 (h : 25 ≤ xn Z 0 11) : ent G ad Z 11 8 = some (inA (gI G) 40 (xi Z 508)) := if_pos (Nat.lt_of_lt_of_le (by decide) h)
theorem e_m9 (h : 25 ≤ xn Z 0 11) : ent G ad Z 11 9 = some (inA (gI G) 40 (xi Z 509)) := if_pos (Nat.lt_of_lt_of_le (by decide) h)
theorem e_m10 (h : 25 ≤ xn Z 0 11) : ent G ad Z 11 10 = some (inA (gI G) 40 (fun j => nI (xn Z 510 j))) := if_pos (Nat.lt_of_lt_of_le (by decide) h)
theorem e_m11 (h : 25 ≤ xn Z 0 11) : ent G ad Z 11 11 = some (inA (gI G) 320 (fun j => nI (xn Z 511 j))) := if_pos (Nat.lt_of_lt_of_le (by decide) h)
theorem e_m12 (h : 25 ≤ xn Z 0 11) : ent G ad Z 11 12 = some (inA (gI G) 40 (xi Z 512)) := if_pos (Nat.lt_of_lt_of_le (by decide) h)
theorem e_m13 (h : 25 ≤ xn Z 0 11) : ent G ad Z 11 13 = some (inA (gI G) 40 (xi Z 513)) := if_pos (Nat.lt_of_lt_of_le (by decide) h)
theorem e_m14 (h : 25 ≤ xn Z 0 11) : ent G ad Z 11 14 = some (lnA (gL G) 40 (xl Z 514)) := if_pos (Nat.lt_of_lt_of_le (by decide) h)
theorem e_m15 (h : 25 ≤ xn Z 0 11) : ent G ad Z 11 15 = some (inA (gZ G) 40 (xi Z 515)) := if_pos (Nat.lt_of_lt_of_le (by decide) h)
theorem e_m16 (h : 25 ≤ xn Z 0 11) : ent G ad Z 11 16 = some (inA (gZ G) 40 (xi Z 516)) := if_pos (Nat.lt_of_lt_of_le (by decide) h)
theorem e_m17 (h : 25 ≤ xn Z 0 11) : ent G ad Z 11 17 = some (inA (gI G) 5 (fun j => nI (xn Z 517 j))) := if_pos (Nat.lt_of_lt_of_le (by decide) h)
theorem e_m18 (h : 25 ≤ xn Z 0 11) : ent G ad Z 11 18 = some (inA (gI G) 200 (fun j => nI (xn Z 518 j))) := if_pos (Nat.lt_of_lt_of_le (by decide) h)
theorem e_m19 (h : 25 ≤ xn Z 0 11) : ent G ad Z 11 19 = some (inA (gI G) 200 (fun j => nI (xn Z 519 j))) := if_pos (Nat.lt_of_lt_of_le (by decide) h)
theorem e_m20 (h : 25 ≤ xn Z 0 11) : ent G ad Z 11 20 = some (inA (gI G) 1600 (fun j => nI (xn Z 520 j))) := if_pos (Nat.lt_of_lt_of_le (by decide) h)
theorem e_m21 (h : 25 ≤ xn Z 0 11) : ent G ad Z 11 21 = some (inA (gZ G) 200 (xi Z 521)) := if_pos (Nat.lt_of_lt_of_le (by decide) h)
theorem e_m22 (h : 25 ≤ xn Z 0 11) : ent G ad Z 11 22 = some (inA (gI G) 40 (fun j => nI (xn Z 522 j))) := if_pos (Nat.lt_of_lt_of_le (by decide) h)
theorem e_m24 (h : 25 ≤ xn Z 0 11) : ent G ad Z 11 24 = some (inA (gZ G) 40 (xi Z 524)) := if_pos (Nat.lt_of_lt_of_le (by decide) h)
end
theorem u_st {G : Gt} {ad : Nat → Nat → Nat} {Z : Zt} {k : Nat} {v : Int32} (hk : k < xn Z 0 1) : Up G ad Z (si Z 1 k v) 1 k (.inr (1, (keyF ad Z k).set 3 (.int v))) := by
  refine ⟨?_, ?_⟩
  · rw [e_key (show k < xn (si Z 1 k v) 0 1 from hk)]; simp [xi_si, xi_sl, xi_sn, xi_sc, xl_si, xl_sl, xl_sn, xl_sc, xn_si, xn_sl, xn_sn, xn_sc, xc_si, xc_sl, xc_sn, xc_sc] <;> rfl
  · intro o i h
    match o, h with
    | 0, h => rfl
    | 1, h => (have hi : ¬ i = k := fun q => h ⟨rfl, q⟩; simp only [ent, keyF, hi, and_false, if_false, xi_si, xi_sl, xi_sn, xi_sc, xl_si, xl_sl, xl_sn, xl_sc, xn_si, xn_sl, xn_sn, xn_sc, xc_si, xc_sl, xc_sn, xc_sc] <;> rfl)
    | 2, h => rfl
    | 3, h => rfl
    | 4, h => rfl
    | 5, h => rfl
    | 6, h => rfl
    | 7, h => rfl
    | 8, h => rfl
    | 9, h => rfl
    | 10, h => rfl
    | 11, h => rfl
    | 12, h => rfl
    | 13, h => rfl
    | (n + 14), h => rfl
theorem u_chg {G : Gt} {ad : Nat → Nat → Nat} {Z : Zt} {k : Nat} {v : Int32} (hk : k < xn Z 0 1) : Up G ad Z (si Z 2 k v) 1 k (.inr (1, (keyF ad Z k).set 5 (.int v))) := by
  refine ⟨?_, ?_⟩
  · rw [e_key (show k < xn (si Z 2 k v) 0 1 from hk)]; simp [xi_si, xi_sl, xi_sn, xi_sc, xl_si, xl_sl, xl_sn, xl_sc, xn_si, xn_sl, xn_sn, xn_sc, xc_si, xc_sl, xc_sn, xc_sc] <;> rfl
  · intro o i h
    match o, h with
    | 0, h => rfl
    | 1, h => (have hi : ¬ i = k := fun q => h ⟨rfl, q⟩; simp only [ent, keyF, hi, and_false, if_false, xi_si, xi_sl, xi_sn, xi_sc, xl_si, xl_sl, xl_sn, xl_sc, xn_si, xn_sl, xn_sn, xn_sc, xc_si, xc_sl, xc_sn, xc_sc] <;> rfl)
    | 2, h => rfl
    | 3, h => rfl
    | 4, h => rfl
    | 5, h => rfl
    | 6, h => rfl
    | 7, h => rfl
    | 8, h => rfl
    | 9, h => rfl
    | 10, h => rfl
    | 11, h => rfl
    | 12, h => rfl
    | 13, h => rfl
    | (n + 14), h => rfl
theorem u_sure {G : Gt} {ad : Nat → Nat → Nat} {Z : Zt} {k : Nat} {v : Int32} (hk : k < xn Z 0 1) : Up G ad Z (si Z 3 k v) 1 k (.inr (1, (keyF ad Z k).set 6 (.int v))) := by
  refine ⟨?_, ?_⟩
  · rw [e_key (show k < xn (si Z 3 k v) 0 1 from hk)]; simp [xi_si, xi_sl, xi_sn, xi_sc, xl_si, xl_sl, xl_sn, xl_sc, xn_si, xn_sl, xn_sn, xn_sc, xc_si, xc_sl, xc_sn, xc_sc] <;> rfl
  · intro o i h
    match o, h with
    | 0, h => rfl
    | 1, h => (have hi : ¬ i = k := fun q => h ⟨rfl, q⟩; simp only [ent, keyF, hi, and_false, if_false, xi_si, xi_sl, xi_sn, xi_sc, xl_si, xl_sl, xl_sn, xl_sc, xn_si, xn_sl, xn_sn, xn_sc, xc_si, xc_sl, xc_sn, xc_sc] <;> rfl)
    | 2, h => rfl
    | 3, h => rfl
    | 4, h => rfl
    | 5, h => rfl
    | 6, h => rfl
    | 7, h => rfl
    | 8, h => rfl
    | 9, h => rfl
    | 10, h => rfl
    | 11, h => rfl
    | 12, h => rfl
    | 13, h => rfl
    | (n + 14), h => rfl
theorem u_own {G : Gt} {ad : Nat → Nat → Nat} {Z : Zt} {k : Nat} {v : Int32} (hk : k < xn Z 0 1) : Up G ad Z (si Z 4 k v) 1 k (.inr (1, (keyF ad Z k).set 7 (.int v))) := by
  refine ⟨?_, ?_⟩
  · rw [e_key (show k < xn (si Z 4 k v) 0 1 from hk)]; simp [xi_si, xi_sl, xi_sn, xi_sc, xl_si, xl_sl, xl_sn, xl_sc, xn_si, xn_sl, xn_sn, xn_sc, xc_si, xc_sl, xc_sn, xc_sc] <;> rfl
  · intro o i h
    match o, h with
    | 0, h => rfl
    | 1, h => (have hi : ¬ i = k := fun q => h ⟨rfl, q⟩; simp only [ent, keyF, hi, and_false, if_false, xi_si, xi_sl, xi_sn, xi_sc, xl_si, xl_sl, xl_sn, xl_sc, xn_si, xn_sl, xn_sn, xn_sc, xc_si, xc_sl, xc_sn, xc_sc] <;> rfl)
    | 2, h => rfl
    | 3, h => rfl
    | 4, h => rfl
    | 5, h => rfl
    | 6, h => rfl
    | 7, h => rfl
    | 8, h => rfl
    | 9, h => rfl
    | 10, h => rfl
    | 11, h => rfl
    | 12, h => rfl
    | 13, h => rfl
    | (n + 14), h => rfl
theorem u_wrk {G : Gt} {ad : Nat → Nat → Nat} {Z : Zt} {k : Nat} {v : Int32} (hk : k < xn Z 0 1) : Up G ad Z (si Z 5 k v) 1 k (.inr (1, (keyF ad Z k).set 8 (.int v))) := by
  refine ⟨?_, ?_⟩
  · rw [e_key (show k < xn (si Z 5 k v) 0 1 from hk)]; simp [xi_si, xi_sl, xi_sn, xi_sc, xl_si, xl_sl, xl_sn, xl_sc, xn_si, xn_sl, xn_sn, xn_sc, xc_si, xc_sl, xc_sn, xc_sc] <;> rfl
  · intro o i h
    match o, h with
    | 0, h => rfl
    | 1, h => (have hi : ¬ i = k := fun q => h ⟨rfl, q⟩; simp only [ent, keyF, hi, and_false, if_false, xi_si, xi_sl, xi_sn, xi_sc, xl_si, xl_sl, xl_sn, xl_sc, xn_si, xn_sl, xn_sn, xn_sc, xc_si, xc_sl, xc_sn, xc_sc] <;> rfl)
    | 2, h => rfl
    | 3, h => rfl
    | 4, h => rfl
    | 5, h => rfl
    | 6, h => rfl
    | 7, h => rfl
    | 8, h => rfl
    | 9, h => rfl
    | 10, h => rfl
    | 11, h => rfl
    | 12, h => rfl
    | 13, h => rfl
    | (n + 14), h => rfl
theorem u_kpt {G : Gt} {ad : Nat → Nat → Nat} {Z : Zt} {k : Nat} {v : Int32} (hk : k < xn Z 0 1) : Up G ad Z (si Z 6 k v) 1 k (.inr (1, (keyF ad Z k).set 9 (.int v))) := by
  refine ⟨?_, ?_⟩
  · rw [e_key (show k < xn (si Z 6 k v) 0 1 from hk)]; simp [xi_si, xi_sl, xi_sn, xi_sc, xl_si, xl_sl, xl_sn, xl_sc, xn_si, xn_sl, xn_sn, xn_sc, xc_si, xc_sl, xc_sn, xc_sc] <;> rfl
  · intro o i h
    match o, h with
    | 0, h => rfl
    | 1, h => (have hi : ¬ i = k := fun q => h ⟨rfl, q⟩; simp only [ent, keyF, hi, and_false, if_false, xi_si, xi_sl, xi_sn, xi_sc, xl_si, xl_sl, xl_sn, xl_sc, xn_si, xn_sl, xn_sn, xn_sc, xc_si, xc_sl, xc_sn, xc_sc] <;> rfl)
    | 2, h => rfl
    | 3, h => rfl
    | 4, h => rfl
    | 5, h => rfl
    | 6, h => rfl
    | 7, h => rfl
    | 8, h => rfl
    | 9, h => rfl
    | 10, h => rfl
    | 11, h => rfl
    | 12, h => rfl
    | 13, h => rfl
    | (n + 14), h => rfl
theorem u_spo {G : Gt} {ad : Nat → Nat → Nat} {Z : Zt} {k : Nat} {v : Int32} (hk : k < xn Z 0 1) : Up G ad Z (si Z 7 k v) 1 k (.inr (1, (keyF ad Z k).set 10 (.int v))) := by
  refine ⟨?_, ?_⟩
  · rw [e_key (show k < xn (si Z 7 k v) 0 1 from hk)]; simp [xi_si, xi_sl, xi_sn, xi_sc, xl_si, xl_sl, xl_sn, xl_sc, xn_si, xn_sl, xn_sn, xn_sc, xc_si, xc_sl, xc_sn, xc_sc] <;> rfl
  · intro o i h
    match o, h with
    | 0, h => rfl
    | 1, h => (have hi : ¬ i = k := fun q => h ⟨rfl, q⟩; simp only [ent, keyF, hi, and_false, if_false, xi_si, xi_sl, xi_sn, xi_sc, xl_si, xl_sl, xl_sn, xl_sc, xn_si, xn_sl, xn_sn, xn_sc, xc_si, xc_sl, xc_sn, xc_sc] <;> rfl)
    | 2, h => rfl
    | 3, h => rfl
    | 4, h => rfl
    | 5, h => rfl
    | 6, h => rfl
    | 7, h => rfl
    | 8, h => rfl
    | 9, h => rfl
    | 10, h => rfl
    | 11, h => rfl
    | 12, h => rfl
    | 13, h => rfl
    | (n + 14), h => rfl
theorem u_worker {G : Gt} {ad : Nat → Nat → Nat} {Z : Zt} {k : Nat} {v : Int32} (hk : k < xn Z 0 1) : Up G ad Z (si Z 8 k v) 1 k (.inr (1, (keyF ad Z k).set 15 (.int v))) := by
  refine ⟨?_, ?_⟩
  · rw [e_key (show k < xn (si Z 8 k v) 0 1 from hk)]; simp [xi_si, xi_sl, xi_sn, xi_sc, xl_si, xl_sl, xl_sn, xl_sc, xn_si, xn_sl, xn_sn, xn_sc, xc_si, xc_sl, xc_sn, xc_sc] <;> rfl
  · intro o i h
    match o, h with
    | 0, h => rfl
    | 1, h => (have hi : ¬ i = k := fun q => h ⟨rfl, q⟩; simp only [ent, keyF, hi, and_false, if_false, xi_si, xi_sl, xi_sn, xi_sc, xl_si, xl_sl, xl_sn, xl_sc, xn_si, xn_sl, xn_sn, xn_sc, xc_si, xc_sl, xc_sn, xc_sc] <;> rfl)
    | 2, h => rfl
    | 3, h => rfl
    | 4, h => rfl
    | 5, h => rfl
    | 6, h => rfl
    | 7, h => rfl
    | 8, h => rfl
    | 9, h => rfl
    | 10, h => rfl
    | 11, h => rfl
    | 12, h => rfl
    | 13, h => rfl
    | (n + 14), h => rfl
theorem u_checks {G : Gt} {ad : Nat → Nat → Nat} {Z : Zt} {k : Nat} {v : Int32} (hk : k < xn Z 0 1) : Up G ad Z (si Z 9 k v) 1 k (.inr (1, (keyF ad Z k).set 17 (.int v))) := by
  refine ⟨?_, ?_⟩
  · rw [e_key (show k < xn (si Z 9 k v) 0 1 from hk)]; simp [xi_si, xi_sl, xi_sn, xi_sc, xl_si, xl_sl, xl_sn, xl_sc, xn_si, xn_sl, xn_sn, xn_sc, xc_si, xc_sl, xc_sn, xc_sc] <;> rfl
  · intro o i h
    match o, h with
    | 0, h => rfl
    | 1, h => (have hi : ¬ i = k := fun q => h ⟨rfl, q⟩; simp only [ent, keyF, hi, and_false, if_false, xi_si, xi_sl, xi_sn, xi_sc, xl_si, xl_sl, xl_sn, xl_sc, xn_si, xn_sl, xn_sn, xn_sc, xc_si, xc_sl, xc_sn, xc_sc] <;> rfl)
    | 2, h => rfl
    | 3, h => rfl
    | 4, h => rfl
    | 5, h => rfl
    | 6, h => rfl
    | 7, h => rfl
    | 8, h => rfl
    | 9, h => rfl
    | 10, h => rfl
    | 11, h => rfl
    | 12, h => rfl
    | 13, h => rfl
    | (n + 14), h => rfl
theorem u_val {G : Gt} {ad : Nat → Nat → Nat} {Z : Zt} {k : Nat} {v : Int64} (hk : k < xn Z 0 1) : Up G ad Z (sl Z 1 k v) 1 k (.inr (1, (keyF ad Z k).set 4 (.long v))) := by
  refine ⟨?_, ?_⟩
  · rw [e_key (show k < xn (sl Z 1 k v) 0 1 from hk)]; simp [xi_si, xi_sl, xi_sn, xi_sc, xl_si, xl_sl, xl_sn, xl_sc, xn_si, xn_sl, xn_sn, xn_sc, xc_si, xc_sl, xc_sn, xc_sc] <;> rfl
  · intro o i h
    match o, h with
    | 0, h => rfl
    | 1, h => (have hi : ¬ i = k := fun q => h ⟨rfl, q⟩; simp only [ent, keyF, hi, and_false, if_false, xi_si, xi_sl, xi_sn, xi_sc, xl_si, xl_sl, xl_sn, xl_sc, xn_si, xn_sl, xn_sn, xn_sc, xc_si, xc_sl, xc_sn, xc_sc] <;> rfl)
    | 2, h => rfl
    | 3, h => rfl
    | 4, h => rfl
    | 5, h => rfl
    | 6, h => rfl
    | 7, h => rfl
    | 8, h => rfl
    | 9, h => rfl
    | 10, h => rfl
    | 11, h => rfl
    | 12, h => rfl
    | 13, h => rfl
    | (n + 14), h => rfl
theorem u_askedC {G : Gt} {ad : Nat → Nat → Nat} {Z : Zt} {k v : Nat} (hk : k < xn Z 0 1) : Up G ad Z (sn Z 4 k v) 1 k (.inr (1, (keyF ad Z k).set 13 (.int (nI v)))) := by
  refine ⟨?_, ?_⟩
  · rw [e_key (show k < xn (sn Z 4 k v) 0 1 from hk)]; simp [xi_si, xi_sl, xi_sn, xi_sc, xl_si, xl_sl, xl_sn, xl_sc, xn_si, xn_sl, xn_sn, xn_sc, xc_si, xc_sl, xc_sn, xc_sc] <;> rfl
  · intro o i h
    match o, h with
    | 0, h => rfl
    | 1, h => (have hi : ¬ i = k := fun q => h ⟨rfl, q⟩; simp only [ent, keyF, hi, and_false, if_false, xi_si, xi_sl, xi_sn, xi_sc, xl_si, xl_sl, xl_sn, xl_sc, xn_si, xn_sl, xn_sn, xn_sc, xc_si, xc_sl, xc_sn, xc_sc] <;> rfl)
    | 2, h => rfl
    | 3, h => rfl
    | 4, h => rfl
    | 5, h => rfl
    | 6, h => rfl
    | 7, h => rfl
    | 8, h => rfl
    | 9, h => rfl
    | 10, h => rfl
    | 11, h => rfl
    | 12, h => rfl
    | 13, h => rfl
    | (n + 14), h => rfl
theorem u_askingC {G : Gt} {ad : Nat → Nat → Nat} {Z : Zt} {k v : Nat} (hk : k < xn Z 0 1) : Up G ad Z (sn Z 5 k v) 1 k (.inr (1, (keyF ad Z k).set 14 (.int (nI v)))) := by
  refine ⟨?_, ?_⟩
  · rw [e_key (show k < xn (sn Z 5 k v) 0 1 from hk)]; simp [xi_si, xi_sl, xi_sn, xi_sc, xl_si, xl_sl, xl_sn, xl_sc, xn_si, xn_sl, xn_sn, xn_sc, xc_si, xc_sl, xc_sn, xc_sc] <;> rfl
  · intro o i h
    match o, h with
    | 0, h => rfl
    | 1, h => (have hi : ¬ i = k := fun q => h ⟨rfl, q⟩; simp only [ent, keyF, hi, and_false, if_false, xi_si, xi_sl, xi_sn, xi_sc, xl_si, xl_sl, xl_sn, xl_sc, xn_si, xn_sl, xn_sn, xn_sc, xc_si, xc_sl, xc_sn, xc_sc] <;> rfl)
    | 2, h => rfl
    | 3, h => rfl
    | 4, h => rfl
    | 5, h => rfl
    | 6, h => rfl
    | 7, h => rfl
    | 8, h => rfl
    | 9, h => rfl
    | 10, h => rfl
    | 11, h => rfl
    | 12, h => rfl
    | 13, h => rfl
    | (n + 14), h => rfl
theorem u_at {G : Gt} {ad : Nat → Nat → Nat} {Z : Zt} {k v : Nat} (hk : k < xn Z 0 1) : Up G ad Z (sn Z 6 k v) 1 k (.inr (1, (keyF ad Z k).set 16 (.int (nI v)))) := by
  refine ⟨?_, ?_⟩
  · rw [e_key (show k < xn (sn Z 6 k v) 0 1 from hk)]; simp [xi_si, xi_sl, xi_sn, xi_sc, xl_si, xl_sl, xl_sn, xl_sc, xn_si, xn_sl, xn_sn, xn_sc, xc_si, xc_sl, xc_sn, xc_sc] <;> rfl
  · intro o i h
    match o, h with
    | 0, h => rfl
    | 1, h => (have hi : ¬ i = k := fun q => h ⟨rfl, q⟩; simp only [ent, keyF, hi, and_false, if_false, xi_si, xi_sl, xi_sn, xi_sc, xl_si, xl_sl, xl_sn, xl_sc, xn_si, xn_sl, xn_sn, xn_sc, xc_si, xc_sl, xc_sn, xc_sc] <;> rfl)
    | 2, h => rfl
    | 3, h => rfl
    | 4, h => rfl
    | 5, h => rfl
    | 6, h => rfl
    | 7, h => rfl
    | 8, h => rfl
    | 9, h => rfl
    | 10, h => rfl
    | 11, h => rfl
    | 12, h => rfl
    | 13, h => rfl
    | (n + 14), h => rfl
theorem u_aA {G : Gt} {ad : Nat → Nat → Nat} {Z : Zt} {k v : Nat} (hk : k < xn Z 0 1) : Up G ad Z (sn Z 7 k v) 1 k (.inr (1, (keyF ad Z k).set 11 (.ref (ad 5 v)))) := by
  refine ⟨?_, ?_⟩
  · rw [e_key (show k < xn (sn Z 7 k v) 0 1 from hk)]; simp [xi_si, xi_sl, xi_sn, xi_sc, xl_si, xl_sl, xl_sn, xl_sc, xn_si, xn_sl, xn_sn, xn_sc, xc_si, xc_sl, xc_sn, xc_sc] <;> rfl
  · intro o i h
    match o, h with
    | 0, h => rfl
    | 1, h => (have hi : ¬ i = k := fun q => h ⟨rfl, q⟩; simp only [ent, keyF, hi, and_false, if_false, xi_si, xi_sl, xi_sn, xi_sc, xl_si, xl_sl, xl_sn, xl_sc, xn_si, xn_sl, xn_sn, xn_sc, xc_si, xc_sl, xc_sn, xc_sc] <;> rfl)
    | 2, h => rfl
    | 3, h => rfl
    | 4, h => rfl
    | 5, h => rfl
    | 6, h => rfl
    | 7, h => rfl
    | 8, h => rfl
    | 9, h => rfl
    | 10, h => rfl
    | 11, h => rfl
    | 12, h => rfl
    | 13, h => rfl
    | (n + 14), h => rfl
theorem u_aB {G : Gt} {ad : Nat → Nat → Nat} {Z : Zt} {k v : Nat} (hk : k < xn Z 0 1) : Up G ad Z (sn Z 8 k v) 1 k (.inr (1, (keyF ad Z k).set 12 (.ref (ad 5 v)))) := by
  refine ⟨?_, ?_⟩
  · rw [e_key (show k < xn (sn Z 8 k v) 0 1 from hk)]; simp [xi_si, xi_sl, xi_sn, xi_sc, xl_si, xl_sl, xl_sn, xl_sc, xn_si, xn_sl, xn_sn, xn_sc, xc_si, xc_sl, xc_sn, xc_sc] <;> rfl
  · intro o i h
    match o, h with
    | 0, h => rfl
    | 1, h => (have hi : ¬ i = k := fun q => h ⟨rfl, q⟩; simp only [ent, keyF, hi, and_false, if_false, xi_si, xi_sl, xi_sn, xi_sc, xl_si, xl_sl, xl_sn, xl_sc, xn_si, xn_sl, xn_sn, xn_sc, xc_si, xc_sl, xc_sn, xc_sc] <;> rfl)
    | 2, h => rfl
    | 3, h => rfl
    | 4, h => rfl
    | 5, h => rfl
    | 6, h => rfl
    | 7, h => rfl
    | 8, h => rfl
    | 9, h => rfl
    | 10, h => rfl
    | 11, h => rfl
    | 12, h => rfl
    | 13, h => rfl
    | (n + 14), h => rfl
theorem u_ver {G : Gt} {ad : Nat → Nat → Nat} {Z : Zt} {v : Int32} (hk : 0 < xn Z 0 0) : Up G ad Z (si Z 14 0 v) 0 0 (.inr (0, (kgF ad Z).set 3 (.int v))) := by
  refine ⟨?_, ?_⟩
  · exact e_kg (Z := si Z 14 0 v) hk
  · intro o i h
    match o, h with
    | 0, h => (have hi : ¬ i = 0 := fun q => h ⟨rfl, q⟩; simp only [ent, hi, if_false] <;> rfl)
    | 1, h => rfl
    | 2, h => rfl
    | 3, h => rfl
    | 4, h => rfl
    | 5, h => rfl
    | 6, h => rfl
    | 7, h => rfl
    | 8, h => rfl
    | 9, h => rfl
    | 10, h => rfl
    | 11, h => rfl
    | 12, h => rfl
    | 13, h => rfl
    | (n + 14), h => rfl
theorem u_leads {G : Gt} {ad : Nat → Nat → Nat} {Z : Zt} {j : Nat} {v : Int32} (hk : 0 < xn Z 0 9) : Up G ad Z (si Z 15 j v) 9 0 (inA (gZ G) 40 (upd (xi Z 15) j v)) := by
  refine ⟨?_, ?_⟩
  · rw [e_leads (show 0 < xn (si Z 15 j v) 0 9 from hk)]; congr 3; funext q; by_cases hq : q = j <;> simp [upd, xi_si, hq]
  · intro o i h
    match o, h with
    | 0, h => rfl
    | 1, h => rfl
    | 2, h => rfl
    | 3, h => rfl
    | 4, h => rfl
    | 5, h => rfl
    | 6, h => rfl
    | 7, h => rfl
    | 8, h => rfl
    | 9, h => (have hi : ¬ i = 0 := fun q => h ⟨rfl, q⟩; simp only [ent, hi, if_false] <;> rfl)
    | 10, h => rfl
    | 11, h => rfl
    | 12, h => rfl
    | 13, h => rfl
    | (n + 14), h => rfl
theorem u_out {G : Gt} {ad : Nat → Nat → Nat} {Z : Zt} {j : Nat} {v : Int64} (hk : 0 < xn Z 0 12) : Up G ad Z (sl Z 3 j v) 12 0 (lnA (gL G) 1 (vp_updL (xl Z 3) j v)) := by
  refine ⟨?_, ?_⟩
  · rw [e_out (show 0 < xn (sl Z 3 j v) 0 12 from hk)]; congr 4; funext q; by_cases hq : q = j <;> simp [vp_updL, xl_sl, hq]
  · intro o i h
    match o, h with
    | 0, h => rfl
    | 1, h => rfl
    | 2, h => rfl
    | 3, h => rfl
    | 4, h => rfl
    | 5, h => rfl
    | 6, h => rfl
    | 7, h => rfl
    | 8, h => rfl
    | 9, h => rfl
    | 10, h => rfl
    | 11, h => rfl
    | 12, h => (have hi : ¬ i = 0 := fun q => h ⟨rfl, q⟩; simp only [ent, hi, if_false] <;> rfl)
    | 13, h => rfl
    | (n + 14), h => rfl
theorem u_mcode {G : Gt} {ad : Nat → Nat → Nat} {Z : Zt} {v : Int32} (hk : 0 < xn Z 0 10) : Up G ad Z (si Z 20 0 v) 10 0 (.inr (9, (modF ad Z).set 0 (.int v))) := by
  refine ⟨?_, ?_⟩
  · exact e_mod (Z := si Z 20 0 v) hk
  · intro o i h
    match o, h with
    | 0, h => rfl
    | 1, h => rfl
    | 2, h => rfl
    | 3, h => rfl
    | 4, h => rfl
    | 5, h => rfl
    | 6, h => rfl
    | 7, h => rfl
    | 8, h => rfl
    | 9, h => rfl
    | 10, h => (have hi : ¬ i = 0 := fun q => h ⟨rfl, q⟩; simp only [ent, hi, if_false] <;> rfl)
    | 11, h => rfl
    | 12, h => rfl
    | 13, h => rfl
    | (n + 14), h => rfl
theorem u_mver {G : Gt} {ad : Nat → Nat → Nat} {Z : Zt} {v : Int32} (hk : 0 < xn Z 0 10) : Up G ad Z (si Z 21 0 v) 10 0 (.inr (9, (modF ad Z).set 1 (.int v))) := by
  refine ⟨?_, ?_⟩
  · exact e_mod (Z := si Z 21 0 v) hk
  · intro o i h
    match o, h with
    | 0, h => rfl
    | 1, h => rfl
    | 2, h => rfl
    | 3, h => rfl
    | 4, h => rfl
    | 5, h => rfl
    | 6, h => rfl
    | 7, h => rfl
    | 8, h => rfl
    | 9, h => rfl
    | 10, h => (have hi : ¬ i = 0 := fun q => h ⟨rfl, q⟩; simp only [ent, hi, if_false] <;> rfl)
    | 11, h => rfl
    | 12, h => rfl
    | 13, h => rfl
    | (n + 14), h => rfl
theorem u_mkeys {G : Gt} {ad : Nat → Nat → Nat} {Z : Zt} {v : Nat} (hk : 0 < xn Z 0 10) : Up G ad Z (sn Z 20 0 v) 10 0 (.inr (9, (modF ad Z).set 2 (.int (nI v)))) := by
  refine ⟨?_, ?_⟩
  · exact e_mod (Z := sn Z 20 0 v) hk
  · intro o i h
    match o, h with
    | 0, h => rfl
    | 1, h => rfl
    | 2, h => rfl
    | 3, h => rfl
    | 4, h => rfl
    | 5, h => rfl
    | 6, h => rfl
    | 7, h => rfl
    | 8, h => rfl
    | 9, h => rfl
    | 10, h => (have hi : ¬ i = 0 := fun q => h ⟨rfl, q⟩; simp only [ent, hi, if_false] <;> rfl)
    | 11, h => rfl
    | 12, h => rfl
    | 13, h => rfl
    | (n + 14), h => rfl
theorem u_mringN {G : Gt} {ad : Nat → Nat → Nat} {Z : Zt} {v : Nat} (hk : 0 < xn Z 0 10) : Up G ad Z (sn Z 21 0 v) 10 0 (.inr (9, (modF ad Z).set 23 (.int (nI v)))) := by
  refine ⟨?_, ?_⟩
  · exact e_mod (Z := sn Z 21 0 v) hk
  · intro o i h
    match o, h with
    | 0, h => rfl
    | 1, h => rfl
    | 2, h => rfl
    | 3, h => rfl
    | 4, h => rfl
    | 5, h => rfl
    | 6, h => rfl
    | 7, h => rfl
    | 8, h => rfl
    | 9, h => rfl
    | 10, h => (have hi : ¬ i = 0 := fun q => h ⟨rfl, q⟩; simp only [ent, hi, if_false] <;> rfl)
    | 11, h => rfl
    | 12, h => rfl
    | 13, h => rfl
    | (n + 14), h => rfl
theorem u_m3 {G : Gt} {ad : Nat → Nat → Nat} {Z : Zt} {j : Nat} {v : Int32} (hk : 25 ≤ xn Z 0 11) : Up G ad Z (si Z 503 j v) 11 3 (inA (gI G) 40 (upd (xi Z 503) j v)) := by
  refine ⟨?_, ?_⟩
  · rw [e_m3 (show 25 ≤ xn (si Z 503 j v) 0 11 from hk)]; congr 3; funext q; by_cases hq : q = j <;> simp [upd, xi_si, hq]
  · intro o i h
    match o, h with
    | 0, h => rfl
    | 1, h => rfl
    | 2, h => rfl
    | 3, h => rfl
    | 4, h => rfl
    | 5, h => rfl
    | 6, h => rfl
    | 7, h => rfl
    | 8, h => rfl
    | 9, h => rfl
    | 10, h => rfl
    | 11, h => (have hi : ¬ i = 3 := fun q => h ⟨rfl, q⟩; match i, hi with | 0, hi => rfl | 1, hi => rfl | 2, hi => rfl | 3, hi => (exact absurd rfl hi) | 4, hi => rfl | 5, hi => rfl | 6, hi => rfl | 7, hi => rfl | 8, hi => rfl | 9, hi => rfl | 10, hi => rfl | 11, hi => rfl | 12, hi => rfl | 13, hi => rfl | 14, hi => rfl | 15, hi => rfl | 16, hi => rfl | 17, hi => rfl | 18, hi => rfl | 19, hi => rfl | 20, hi => rfl | 21, hi => rfl | 22, hi => rfl | 23, hi => rfl | 24, hi => rfl | (q + 25), hi => rfl)
    | 12, h => rfl
    | 13, h => rfl
    | (n + 14), h => rfl
theorem u_m4 {G : Gt} {ad : Nat → Nat → Nat} {Z : Zt} {j v : Nat} (hk : 25 ≤ xn Z 0 11) : Up G ad Z (sn Z 504 j v) 11 4 (inA (gI G) 40 (upd (fun j => nI (xn Z 504 j)) j (nI v))) := by
  refine ⟨?_, ?_⟩
  · rw [e_m4 (show 25 ≤ xn (sn Z 504 j v) 0 11 from hk)]; congr 3; funext q; by_cases hq : q = j <;> simp [upd, xn_sn, hq]
  · intro o i h
    match o, h with
    | 0, h => rfl
    | 1, h => rfl
    | 2, h => rfl
    | 3, h => rfl
    | 4, h => rfl
    | 5, h => rfl
    | 6, h => rfl
    | 7, h => rfl
    | 8, h => rfl
    | 9, h => rfl
    | 10, h => rfl
    | 11, h => (have hi : ¬ i = 4 := fun q => h ⟨rfl, q⟩; match i, hi with | 0, hi => rfl | 1, hi => rfl | 2, hi => rfl | 3, hi => rfl | 4, hi => (exact absurd rfl hi) | 5, hi => rfl | 6, hi => rfl | 7, hi => rfl | 8, hi => rfl | 9, hi => rfl | 10, hi => rfl | 11, hi => rfl | 12, hi => rfl | 13, hi => rfl | 14, hi => rfl | 15, hi => rfl | 16, hi => rfl | 17, hi => rfl | 18, hi => rfl | 19, hi => rfl | 20, hi => rfl | 21, hi => rfl | 22, hi => rfl | 23, hi => rfl | 24, hi => rfl | (q + 25), hi => rfl)
    | 12, h => rfl
    | 13, h => rfl
    | (n + 14), h => rfl
theorem u_m5 {G : Gt} {ad : Nat → Nat → Nat} {Z : Zt} {j v : Nat} (hk : 25 ≤ xn Z 0 11) : Up G ad Z (sn Z 505 j v) 11 5 (inA (gI G) 320 (upd (fun j => nI (xn Z 505 j)) j (nI v))) := by
  refine ⟨?_, ?_⟩
  · rw [e_m5 (show 25 ≤ xn (sn Z 505 j v) 0 11 from hk)]; congr 3; funext q; by_cases hq : q = j <;> simp [upd, xn_sn, hq]
  · intro o i h
    match o, h with
    | 0, h => rfl
    | 1, h => rfl
    | 2, h => rfl
    | 3, h => rfl
    | 4, h => rfl
    | 5, h => rfl
    | 6, h => rfl
    | 7, h => rfl
    | 8, h => rfl
    | 9, h => rfl
    | 10, h => rfl
    | 11, h => (have hi : ¬ i = 5 := fun q => h ⟨rfl, q⟩; match i, hi with | 0, hi => rfl | 1, hi => rfl | 2, hi => rfl | 3, hi => rfl | 4, hi => rfl | 5, hi => (exact absurd rfl hi) | 6, hi => rfl | 7, hi => rfl | 8, hi => rfl | 9, hi => rfl | 10, hi => rfl | 11, hi => rfl | 12, hi => rfl | 13, hi => rfl | 14, hi => rfl | 15, hi => rfl | 16, hi => rfl | 17, hi => rfl | 18, hi => rfl | 19, hi => rfl | 20, hi => rfl | 21, hi => rfl | 22, hi => rfl | 23, hi => rfl | 24, hi => rfl | (q + 25), hi => rfl)
    | 12, h => rfl
    | 13, h => rfl
    | (n + 14), h => rfl
theorem u_m6 {G : Gt} {ad : Nat → Nat → Nat} {Z : Zt} {j : Nat} {v : Int32} (hk : 25 ≤ xn Z 0 11) : Up G ad Z (si Z 506 j v) 11 6 (inA (gI G) 40 (upd (xi Z 506) j v)) := by
  refine ⟨?_, ?_⟩
  · rw [e_m6 (show 25 ≤ xn (si Z 506 j v) 0 11 from hk)]; congr 3; funext q; by_cases hq : q = j <;> simp [upd, xi_si, hq]
  · intro o i h
    match o, h with
    | 0, h => rfl
    | 1, h => rfl
    | 2, h => rfl
    | 3, h => rfl
    | 4, h => rfl
    | 5, h => rfl
    | 6, h => rfl
    | 7, h => rfl
    | 8, h => rfl
    | 9, h => rfl
    | 10, h => rfl
    | 11, h => (have hi : ¬ i = 6 := fun q => h ⟨rfl, q⟩; match i, hi with | 0, hi => rfl | 1, hi => rfl | 2, hi => rfl | 3, hi => rfl | 4, hi => rfl | 5, hi => rfl | 6, hi => (exact absurd rfl hi) | 7, hi => rfl | 8, hi => rfl | 9, hi => rfl | 10, hi => rfl | 11, hi => rfl | 12, hi => rfl | 13, hi => rfl | 14, hi => rfl | 15, hi => rfl | 16, hi => rfl | 17, hi => rfl | 18, hi => rfl | 19, hi => rfl | 20, hi => rfl | 21, hi => rfl | 22, hi => rfl | 23, hi => rfl | 24, hi => rfl | (q + 25), hi => rfl)
    | 12, h => rfl
    | 13, h => rfl
    | (n + 14), h => rfl
theorem u_m7 {G : Gt} {ad : Nat → Nat → Nat} {Z : Zt} {j : Nat} {v : Int32} (hk : 25 ≤ xn Z 0 11) : Up G ad Z (si Z 507 j v) 11 7 (inA (gI G) 40 (upd (xi Z 507) j v)) := by
  refine ⟨?_, ?_⟩
  · rw [e_m7 (show 25 ≤ xn (si Z 507 j v) 0 11 from hk)]; congr 3; funext q; by_cases hq : q = j <;> simp [upd, xi_si, hq]
  · intro o i h
    match o, h with
    | 0, h => rfl
    | 1, h => rfl
    | 2, h => rfl
    | 3, h => rfl
    | 4, h => rfl
    | 5, h => rfl
    | 6, h => rfl
    | 7, h => rfl
    | 8, h => rfl
    | 9, h => rfl
    | 10, h => rfl
    | 11, h => (have hi : ¬ i = 7 := fun q => h ⟨rfl, q⟩; match i, hi with | 0, hi => rfl | 1, hi => rfl | 2, hi => rfl | 3, hi => rfl | 4, hi => rfl | 5, hi => rfl | 6, hi => rfl | 7, hi => (exact absurd rfl hi) | 8, hi => rfl | 9, hi => rfl | 10, hi => rfl | 11, hi => rfl | 12, hi => rfl | 13, hi => rfl | 14, hi => rfl | 15, hi => rfl | 16, hi => rfl | 17, hi => rfl | 18, hi => rfl | 19, hi => rfl | 20, hi => rfl | 21, hi => rfl | 22, hi => rfl | 23, hi => rfl | 24, hi => rfl | (q + 25), hi => rfl)
    | 12, h => rfl
    | 13, h => rfl
    | (n + 14), h => rfl
theorem u_m8 {G : Gt} {ad : Nat → Nat → Nat} {Z : Zt} {j : Nat} {v : Int32} (hk : 25 ≤ xn Z 0 11) : Up G ad Z (si Z 508 j v) 11 8 (inA (gI G) 40 (upd (xi Z 508) j v)) := by
  refine ⟨?_, ?_⟩
  · rw [e_m8 (show 25 ≤ xn (si Z 508 j v) 0 11 from hk)]; congr 3; funext q; by_cases hq : q = j <;> simp [upd, xi_si, hq]
  · intro o i h
    match o, h with
    | 0, h => rfl
    | 1, h => rfl
    | 2, h => rfl
    | 3, h => rfl
    | 4, h => rfl
    | 5, h => rfl
    | 6, h => rfl
    | 7, h => rfl
    | 8, h => rfl
    | 9, h => rfl
    | 10, h => rfl
    | 11, h => (have hi : ¬ i = 8 := fun q => h ⟨rfl, q⟩; match i, hi with | 0, hi => rfl | 1, hi => rfl | 2, hi => rfl | 3, hi => rfl | 4, hi => rfl | 5, hi => rfl | 6, hi => rfl | 7, hi => rfl | 8, hi => (exact absurd rfl hi) | 9, hi => rfl | 10, hi => rfl | 11, hi => rfl | 12, hi => rfl | 13, hi => rfl | 14, hi => rfl | 15, hi => rfl | 16, hi => rfl | 17, hi => rfl | 18, hi => rfl | 19, hi => rfl | 20, hi => rfl | 21, hi => rfl | 22, hi => rfl | 23, hi => rfl | 24, hi => rfl | (q + 25), hi => rfl)
    | 12, h => rfl
    | 13, h => rfl
    | (n + 14), h => rfl
theorem u_m9 {G : Gt} {ad : Nat → Nat → Nat} {Z : Zt} {j : Nat} {v : Int32} (hk : 25 ≤ xn Z 0 11) : Up G ad Z (si Z 509 j v) 11 9 (inA (gI G) 40 (upd (xi Z 509) j v)) := by
  refine ⟨?_, ?_⟩
  · rw [e_m9 (show 25 ≤ xn (si Z 509 j v) 0 11 from hk)]; congr 3; funext q; by_cases hq : q = j <;> simp [upd, xi_si, hq]
  · intro o i h
    match o, h with
    | 0, h => rfl
    | 1, h => rfl
    | 2, h => rfl
    | 3, h => rfl
    | 4, h => rfl
    | 5, h => rfl
    | 6, h => rfl
    | 7, h => rfl
    | 8, h => rfl
    | 9, h => rfl
    | 10, h => rfl
    | 11, h => (have hi : ¬ i = 9 := fun q => h ⟨rfl, q⟩; match i, hi with | 0, hi => rfl | 1, hi => rfl | 2, hi => rfl | 3, hi => rfl | 4, hi => rfl | 5, hi => rfl | 6, hi => rfl | 7, hi => rfl | 8, hi => rfl | 9, hi => (exact absurd rfl hi) | 10, hi => rfl | 11, hi => rfl | 12, hi => rfl | 13, hi => rfl | 14, hi => rfl | 15, hi => rfl | 16, hi => rfl | 17, hi => rfl | 18, hi => rfl | 19, hi => rfl | 20, hi => rfl | 21, hi => rfl | 22, hi => rfl | 23, hi => rfl | 24, hi => rfl | (q + 25), hi => rfl)
    | 12, h => rfl
    | 13, h => rfl
    | (n + 14), h => rfl
theorem u_m10 {G : Gt} {ad : Nat → Nat → Nat} {Z : Zt} {j v : Nat} (hk : 25 ≤ xn Z 0 11) : Up G ad Z (sn Z 510 j v) 11 10 (inA (gI G) 40 (upd (fun j => nI (xn Z 510 j)) j (nI v))) := by
  refine ⟨?_, ?_⟩
  · rw [e_m10 (show 25 ≤ xn (sn Z 510 j v) 0 11 from hk)]; congr 3; funext q; by_cases hq : q = j <;> simp [upd, xn_sn, hq]
  · intro o i h
    match o, h with
    | 0, h => rfl
    | 1, h => rfl
    | 2, h => rfl
    | 3, h => rfl
    | 4, h => rfl
    | 5, h => rfl
    | 6, h => rfl
    | 7, h => rfl
    | 8, h => rfl
    | 9, h => rfl
    | 10, h => rfl
    | 11, h => (have hi : ¬ i = 10 := fun q => h ⟨rfl, q⟩; match i, hi with | 0, hi => rfl | 1, hi => rfl | 2, hi => rfl | 3, hi => rfl | 4, hi => rfl | 5, hi => rfl | 6, hi => rfl | 7, hi => rfl | 8, hi => rfl | 9, hi => rfl | 10, hi => (exact absurd rfl hi) | 11, hi => rfl | 12, hi => rfl | 13, hi => rfl | 14, hi => rfl | 15, hi => rfl | 16, hi => rfl | 17, hi => rfl | 18, hi => rfl | 19, hi => rfl | 20, hi => rfl | 21, hi => rfl | 22, hi => rfl | 23, hi => rfl | 24, hi => rfl | (q + 25), hi => rfl)
    | 12, h => rfl
    | 13, h => rfl
    | (n + 14), h => rfl
theorem u_m11 {G : Gt} {ad : Nat → Nat → Nat} {Z : Zt} {j v : Nat} (hk : 25 ≤ xn Z 0 11) : Up G ad Z (sn Z 511 j v) 11 11 (inA (gI G) 320 (upd (fun j => nI (xn Z 511 j)) j (nI v))) := by
  refine ⟨?_, ?_⟩
  · rw [e_m11 (show 25 ≤ xn (sn Z 511 j v) 0 11 from hk)]; congr 3; funext q; by_cases hq : q = j <;> simp [upd, xn_sn, hq]
  · intro o i h
    match o, h with
    | 0, h => rfl
    | 1, h => rfl
    | 2, h => rfl
    | 3, h => rfl
    | 4, h => rfl
    | 5, h => rfl
    | 6, h => rfl
    | 7, h => rfl
    | 8, h => rfl
    | 9, h => rfl
    | 10, h => rfl
    | 11, h => (have hi : ¬ i = 11 := fun q => h ⟨rfl, q⟩; match i, hi with | 0, hi => rfl | 1, hi => rfl | 2, hi => rfl | 3, hi => rfl | 4, hi => rfl | 5, hi => rfl | 6, hi => rfl | 7, hi => rfl | 8, hi => rfl | 9, hi => rfl | 10, hi => rfl | 11, hi => (exact absurd rfl hi) | 12, hi => rfl | 13, hi => rfl | 14, hi => rfl | 15, hi => rfl | 16, hi => rfl | 17, hi => rfl | 18, hi => rfl | 19, hi => rfl | 20, hi => rfl | 21, hi => rfl | 22, hi => rfl | 23, hi => rfl | 24, hi => rfl | (q + 25), hi => rfl)
    | 12, h => rfl
    | 13, h => rfl
    | (n + 14), h => rfl
theorem u_m12 {G : Gt} {ad : Nat → Nat → Nat} {Z : Zt} {j : Nat} {v : Int32} (hk : 25 ≤ xn Z 0 11) : Up G ad Z (si Z 512 j v) 11 12 (inA (gI G) 40 (upd (xi Z 512) j v)) := by
  refine ⟨?_, ?_⟩
  · rw [e_m12 (show 25 ≤ xn (si Z 512 j v) 0 11 from hk)]; congr 3; funext q; by_cases hq : q = j <;> simp [upd, xi_si, hq]
  · intro o i h
    match o, h with
    | 0, h => rfl
    | 1, h => rfl
    | 2, h => rfl
    | 3, h => rfl
    | 4, h => rfl
    | 5, h => rfl
    | 6, h => rfl
    | 7, h => rfl
    | 8, h => rfl
    | 9, h => rfl
    | 10, h => rfl
    | 11, h => (have hi : ¬ i = 12 := fun q => h ⟨rfl, q⟩; match i, hi with | 0, hi => rfl | 1, hi => rfl | 2, hi => rfl | 3, hi => rfl | 4, hi => rfl | 5, hi => rfl | 6, hi => rfl | 7, hi => rfl | 8, hi => rfl | 9, hi => rfl | 10, hi => rfl | 11, hi => rfl | 12, hi => (exact absurd rfl hi) | 13, hi => rfl | 14, hi => rfl | 15, hi => rfl | 16, hi => rfl | 17, hi => rfl | 18, hi => rfl | 19, hi => rfl | 20, hi => rfl | 21, hi => rfl | 22, hi => rfl | 23, hi => rfl | 24, hi => rfl | (q + 25), hi => rfl)
    | 12, h => rfl
    | 13, h => rfl
    | (n + 14), h => rfl
theorem u_m13 {G : Gt} {ad : Nat → Nat → Nat} {Z : Zt} {j : Nat} {v : Int32} (hk : 25 ≤ xn Z 0 11) : Up G ad Z (si Z 513 j v) 11 13 (inA (gI G) 40 (upd (xi Z 513) j v)) := by
  refine ⟨?_, ?_⟩
  · rw [e_m13 (show 25 ≤ xn (si Z 513 j v) 0 11 from hk)]; congr 3; funext q; by_cases hq : q = j <;> simp [upd, xi_si, hq]
  · intro o i h
    match o, h with
    | 0, h => rfl
    | 1, h => rfl
    | 2, h => rfl
    | 3, h => rfl
    | 4, h => rfl
    | 5, h => rfl
    | 6, h => rfl
    | 7, h => rfl
    | 8, h => rfl
    | 9, h => rfl
    | 10, h => rfl
    | 11, h => (have hi : ¬ i = 13 := fun q => h ⟨rfl, q⟩; match i, hi with | 0, hi => rfl | 1, hi => rfl | 2, hi => rfl | 3, hi => rfl | 4, hi => rfl | 5, hi => rfl | 6, hi => rfl | 7, hi => rfl | 8, hi => rfl | 9, hi => rfl | 10, hi => rfl | 11, hi => rfl | 12, hi => rfl | 13, hi => (exact absurd rfl hi) | 14, hi => rfl | 15, hi => rfl | 16, hi => rfl | 17, hi => rfl | 18, hi => rfl | 19, hi => rfl | 20, hi => rfl | 21, hi => rfl | 22, hi => rfl | 23, hi => rfl | 24, hi => rfl | (q + 25), hi => rfl)
    | 12, h => rfl
    | 13, h => rfl
    | (n + 14), h => rfl
theorem u_m14 {G : Gt} {ad : Nat → Nat → Nat} {Z : Zt} {j : Nat} {v : Int64} (hk : 25 ≤ xn Z 0 11) : Up G ad Z (sl Z 514 j v) 11 14 (lnA (gL G) 40 (vp_updL (xl Z 514) j v)) := by
  refine ⟨?_, ?_⟩
  · rw [e_m14 (show 25 ≤ xn (sl Z 514 j v) 0 11 from hk)]; congr 4; funext q; by_cases hq : q = j <;> simp [vp_updL, xl_sl, hq]
  · intro o i h
    match o, h with
    | 0, h => rfl
    | 1, h => rfl
    | 2, h => rfl
    | 3, h => rfl
    | 4, h => rfl
    | 5, h => rfl
    | 6, h => rfl
    | 7, h => rfl
    | 8, h => rfl
    | 9, h => rfl
    | 10, h => rfl
    | 11, h => (have hi : ¬ i = 14 := fun q => h ⟨rfl, q⟩; match i, hi with | 0, hi => rfl | 1, hi => rfl | 2, hi => rfl | 3, hi => rfl | 4, hi => rfl | 5, hi => rfl | 6, hi => rfl | 7, hi => rfl | 8, hi => rfl | 9, hi => rfl | 10, hi => rfl | 11, hi => rfl | 12, hi => rfl | 13, hi => rfl | 14, hi => (exact absurd rfl hi) | 15, hi => rfl | 16, hi => rfl | 17, hi => rfl | 18, hi => rfl | 19, hi => rfl | 20, hi => rfl | 21, hi => rfl | 22, hi => rfl | 23, hi => rfl | 24, hi => rfl | (q + 25), hi => rfl)
    | 12, h => rfl
    | 13, h => rfl
    | (n + 14), h => rfl
theorem u_m15 {G : Gt} {ad : Nat → Nat → Nat} {Z : Zt} {j : Nat} {v : Int32} (hk : 25 ≤ xn Z 0 11) : Up G ad Z (si Z 515 j v) 11 15 (inA (gZ G) 40 (upd (xi Z 515) j v)) := by
  refine ⟨?_, ?_⟩
  · rw [e_m15 (show 25 ≤ xn (si Z 515 j v) 0 11 from hk)]; congr 3; funext q; by_cases hq : q = j <;> simp [upd, xi_si, hq]
  · intro o i h
    match o, h with
    | 0, h => rfl
    | 1, h => rfl
    | 2, h => rfl
    | 3, h => rfl
    | 4, h => rfl
    | 5, h => rfl
    | 6, h => rfl
    | 7, h => rfl
    | 8, h => rfl
    | 9, h => rfl
    | 10, h => rfl
    | 11, h => (have hi : ¬ i = 15 := fun q => h ⟨rfl, q⟩; match i, hi with | 0, hi => rfl | 1, hi => rfl | 2, hi => rfl | 3, hi => rfl | 4, hi => rfl | 5, hi => rfl | 6, hi => rfl | 7, hi => rfl | 8, hi => rfl | 9, hi => rfl | 10, hi => rfl | 11, hi => rfl | 12, hi => rfl | 13, hi => rfl | 14, hi => rfl | 15, hi => (exact absurd rfl hi) | 16, hi => rfl | 17, hi => rfl | 18, hi => rfl | 19, hi => rfl | 20, hi => rfl | 21, hi => rfl | 22, hi => rfl | 23, hi => rfl | 24, hi => rfl | (q + 25), hi => rfl)
    | 12, h => rfl
    | 13, h => rfl
    | (n + 14), h => rfl
theorem u_m16 {G : Gt} {ad : Nat → Nat → Nat} {Z : Zt} {j : Nat} {v : Int32} (hk : 25 ≤ xn Z 0 11) : Up G ad Z (si Z 516 j v) 11 16 (inA (gZ G) 40 (upd (xi Z 516) j v)) := by
  refine ⟨?_, ?_⟩
  · rw [e_m16 (show 25 ≤ xn (si Z 516 j v) 0 11 from hk)]; congr 3; funext q; by_cases hq : q = j <;> simp [upd, xi_si, hq]
  · intro o i h
    match o, h with
    | 0, h => rfl
    | 1, h => rfl
    | 2, h => rfl
    | 3, h => rfl
    | 4, h => rfl
    | 5, h => rfl
    | 6, h => rfl
    | 7, h => rfl
    | 8, h => rfl
    | 9, h => rfl
    | 10, h => rfl
    | 11, h => (have hi : ¬ i = 16 := fun q => h ⟨rfl, q⟩; match i, hi with | 0, hi => rfl | 1, hi => rfl | 2, hi => rfl | 3, hi => rfl | 4, hi => rfl | 5, hi => rfl | 6, hi => rfl | 7, hi => rfl | 8, hi => rfl | 9, hi => rfl | 10, hi => rfl | 11, hi => rfl | 12, hi => rfl | 13, hi => rfl | 14, hi => rfl | 15, hi => rfl | 16, hi => (exact absurd rfl hi) | 17, hi => rfl | 18, hi => rfl | 19, hi => rfl | 20, hi => rfl | 21, hi => rfl | 22, hi => rfl | 23, hi => rfl | 24, hi => rfl | (q + 25), hi => rfl)
    | 12, h => rfl
    | 13, h => rfl
    | (n + 14), h => rfl
theorem u_m17 {G : Gt} {ad : Nat → Nat → Nat} {Z : Zt} {j v : Nat} (hk : 25 ≤ xn Z 0 11) : Up G ad Z (sn Z 517 j v) 11 17 (inA (gI G) 5 (upd (fun j => nI (xn Z 517 j)) j (nI v))) := by
  refine ⟨?_, ?_⟩
  · rw [e_m17 (show 25 ≤ xn (sn Z 517 j v) 0 11 from hk)]; congr 3; funext q; by_cases hq : q = j <;> simp [upd, xn_sn, hq]
  · intro o i h
    match o, h with
    | 0, h => rfl
    | 1, h => rfl
    | 2, h => rfl
    | 3, h => rfl
    | 4, h => rfl
    | 5, h => rfl
    | 6, h => rfl
    | 7, h => rfl
    | 8, h => rfl
    | 9, h => rfl
    | 10, h => rfl
    | 11, h => (have hi : ¬ i = 17 := fun q => h ⟨rfl, q⟩; match i, hi with | 0, hi => rfl | 1, hi => rfl | 2, hi => rfl | 3, hi => rfl | 4, hi => rfl | 5, hi => rfl | 6, hi => rfl | 7, hi => rfl | 8, hi => rfl | 9, hi => rfl | 10, hi => rfl | 11, hi => rfl | 12, hi => rfl | 13, hi => rfl | 14, hi => rfl | 15, hi => rfl | 16, hi => rfl | 17, hi => (exact absurd rfl hi) | 18, hi => rfl | 19, hi => rfl | 20, hi => rfl | 21, hi => rfl | 22, hi => rfl | 23, hi => rfl | 24, hi => rfl | (q + 25), hi => rfl)
    | 12, h => rfl
    | 13, h => rfl
    | (n + 14), h => rfl
theorem u_m18 {G : Gt} {ad : Nat → Nat → Nat} {Z : Zt} {j v : Nat} (hk : 25 ≤ xn Z 0 11) : Up G ad Z (sn Z 518 j v) 11 18 (inA (gI G) 200 (upd (fun j => nI (xn Z 518 j)) j (nI v))) := by
  refine ⟨?_, ?_⟩
  · rw [e_m18 (show 25 ≤ xn (sn Z 518 j v) 0 11 from hk)]; congr 3; funext q; by_cases hq : q = j <;> simp [upd, xn_sn, hq]
  · intro o i h
    match o, h with
    | 0, h => rfl
    | 1, h => rfl
    | 2, h => rfl
    | 3, h => rfl
    | 4, h => rfl
    | 5, h => rfl
    | 6, h => rfl
    | 7, h => rfl
    | 8, h => rfl
    | 9, h => rfl
    | 10, h => rfl
    | 11, h => (have hi : ¬ i = 18 := fun q => h ⟨rfl, q⟩; match i, hi with | 0, hi => rfl | 1, hi => rfl | 2, hi => rfl | 3, hi => rfl | 4, hi => rfl | 5, hi => rfl | 6, hi => rfl | 7, hi => rfl | 8, hi => rfl | 9, hi => rfl | 10, hi => rfl | 11, hi => rfl | 12, hi => rfl | 13, hi => rfl | 14, hi => rfl | 15, hi => rfl | 16, hi => rfl | 17, hi => rfl | 18, hi => (exact absurd rfl hi) | 19, hi => rfl | 20, hi => rfl | 21, hi => rfl | 22, hi => rfl | 23, hi => rfl | 24, hi => rfl | (q + 25), hi => rfl)
    | 12, h => rfl
    | 13, h => rfl
    | (n + 14), h => rfl
theorem u_m19 {G : Gt} {ad : Nat → Nat → Nat} {Z : Zt} {j v : Nat} (hk : 25 ≤ xn Z 0 11) : Up G ad Z (sn Z 519 j v) 11 19 (inA (gI G) 200 (upd (fun j => nI (xn Z 519 j)) j (nI v))) := by
  refine ⟨?_, ?_⟩
  · rw [e_m19 (show 25 ≤ xn (sn Z 519 j v) 0 11 from hk)]; congr 3; funext q; by_cases hq : q = j <;> simp [upd, xn_sn, hq]
  · intro o i h
    match o, h with
    | 0, h => rfl
    | 1, h => rfl
    | 2, h => rfl
    | 3, h => rfl
    | 4, h => rfl
    | 5, h => rfl
    | 6, h => rfl
    | 7, h => rfl
    | 8, h => rfl
    | 9, h => rfl
    | 10, h => rfl
    | 11, h => (have hi : ¬ i = 19 := fun q => h ⟨rfl, q⟩; match i, hi with | 0, hi => rfl | 1, hi => rfl | 2, hi => rfl | 3, hi => rfl | 4, hi => rfl | 5, hi => rfl | 6, hi => rfl | 7, hi => rfl | 8, hi => rfl | 9, hi => rfl | 10, hi => rfl | 11, hi => rfl | 12, hi => rfl | 13, hi => rfl | 14, hi => rfl | 15, hi => rfl | 16, hi => rfl | 17, hi => rfl | 18, hi => rfl | 19, hi => (exact absurd rfl hi) | 20, hi => rfl | 21, hi => rfl | 22, hi => rfl | 23, hi => rfl | 24, hi => rfl | (q + 25), hi => rfl)
    | 12, h => rfl
    | 13, h => rfl
    | (n + 14), h => rfl
theorem u_m20 {G : Gt} {ad : Nat → Nat → Nat} {Z : Zt} {j v : Nat} (hk : 25 ≤ xn Z 0 11) : Up G ad Z (sn Z 520 j v) 11 20 (inA (gI G) 1600 (upd (fun j => nI (xn Z 520 j)) j (nI v))) := by
  refine ⟨?_, ?_⟩
  · rw [e_m20 (show 25 ≤ xn (sn Z 520 j v) 0 11 from hk)]; congr 3; funext q; by_cases hq : q = j <;> simp [upd, xn_sn, hq]
  · intro o i h
    match o, h with
    | 0, h => rfl
    | 1, h => rfl
    | 2, h => rfl
    | 3, h => rfl
    | 4, h => rfl
    | 5, h => rfl
    | 6, h => rfl
    | 7, h => rfl
    | 8, h => rfl
    | 9, h => rfl
    | 10, h => rfl
    | 11, h => (have hi : ¬ i = 20 := fun q => h ⟨rfl, q⟩; match i, hi with | 0, hi => rfl | 1, hi => rfl | 2, hi => rfl | 3, hi => rfl | 4, hi => rfl | 5, hi => rfl | 6, hi => rfl | 7, hi => rfl | 8, hi => rfl | 9, hi => rfl | 10, hi => rfl | 11, hi => rfl | 12, hi => rfl | 13, hi => rfl | 14, hi => rfl | 15, hi => rfl | 16, hi => rfl | 17, hi => rfl | 18, hi => rfl | 19, hi => rfl | 20, hi => (exact absurd rfl hi) | 21, hi => rfl | 22, hi => rfl | 23, hi => rfl | 24, hi => rfl | (q + 25), hi => rfl)
    | 12, h => rfl
    | 13, h => rfl
    | (n + 14), h => rfl
theorem u_m21 {G : Gt} {ad : Nat → Nat → Nat} {Z : Zt} {j : Nat} {v : Int32} (hk : 25 ≤ xn Z 0 11) : Up G ad Z (si Z 521 j v) 11 21 (inA (gZ G) 200 (upd (xi Z 521) j v)) := by
  refine ⟨?_, ?_⟩
  · rw [e_m21 (show 25 ≤ xn (si Z 521 j v) 0 11 from hk)]; congr 3; funext q; by_cases hq : q = j <;> simp [upd, xi_si, hq]
  · intro o i h
    match o, h with
    | 0, h => rfl
    | 1, h => rfl
    | 2, h => rfl
    | 3, h => rfl
    | 4, h => rfl
    | 5, h => rfl
    | 6, h => rfl
    | 7, h => rfl
    | 8, h => rfl
    | 9, h => rfl
    | 10, h => rfl
    | 11, h => (have hi : ¬ i = 21 := fun q => h ⟨rfl, q⟩; match i, hi with | 0, hi => rfl | 1, hi => rfl | 2, hi => rfl | 3, hi => rfl | 4, hi => rfl | 5, hi => rfl | 6, hi => rfl | 7, hi => rfl | 8, hi => rfl | 9, hi => rfl | 10, hi => rfl | 11, hi => rfl | 12, hi => rfl | 13, hi => rfl | 14, hi => rfl | 15, hi => rfl | 16, hi => rfl | 17, hi => rfl | 18, hi => rfl | 19, hi => rfl | 20, hi => rfl | 21, hi => (exact absurd rfl hi) | 22, hi => rfl | 23, hi => rfl | 24, hi => rfl | (q + 25), hi => rfl)
    | 12, h => rfl
    | 13, h => rfl
    | (n + 14), h => rfl
theorem u_m22 {G : Gt} {ad : Nat → Nat → Nat} {Z : Zt} {j v : Nat} (hk : 25 ≤ xn Z 0 11) : Up G ad Z (sn Z 522 j v) 11 22 (inA (gI G) 40 (upd (fun j => nI (xn Z 522 j)) j (nI v))) := by
  refine ⟨?_, ?_⟩
  · rw [e_m22 (show 25 ≤ xn (sn Z 522 j v) 0 11 from hk)]; congr 3; funext q; by_cases hq : q = j <;> simp [upd, xn_sn, hq]
  · intro o i h
    match o, h with
    | 0, h => rfl
    | 1, h => rfl
    | 2, h => rfl
    | 3, h => rfl
    | 4, h => rfl
    | 5, h => rfl
    | 6, h => rfl
    | 7, h => rfl
    | 8, h => rfl
    | 9, h => rfl
    | 10, h => rfl
    | 11, h => (have hi : ¬ i = 22 := fun q => h ⟨rfl, q⟩; match i, hi with | 0, hi => rfl | 1, hi => rfl | 2, hi => rfl | 3, hi => rfl | 4, hi => rfl | 5, hi => rfl | 6, hi => rfl | 7, hi => rfl | 8, hi => rfl | 9, hi => rfl | 10, hi => rfl | 11, hi => rfl | 12, hi => rfl | 13, hi => rfl | 14, hi => rfl | 15, hi => rfl | 16, hi => rfl | 17, hi => rfl | 18, hi => rfl | 19, hi => rfl | 20, hi => rfl | 21, hi => rfl | 22, hi => (exact absurd rfl hi) | 23, hi => rfl | 24, hi => rfl | (q + 25), hi => rfl)
    | 12, h => rfl
    | 13, h => rfl
    | (n + 14), h => rfl
theorem u_m24 {G : Gt} {ad : Nat → Nat → Nat} {Z : Zt} {j : Nat} {v : Int32} (hk : 25 ≤ xn Z 0 11) : Up G ad Z (si Z 524 j v) 11 24 (inA (gZ G) 40 (upd (xi Z 524) j v)) := by
  refine ⟨?_, ?_⟩
  · rw [e_m24 (show 25 ≤ xn (si Z 524 j v) 0 11 from hk)]; congr 3; funext q; by_cases hq : q = j <;> simp [upd, xi_si, hq]
  · intro o i h
    match o, h with
    | 0, h => rfl
    | 1, h => rfl
    | 2, h => rfl
    | 3, h => rfl
    | 4, h => rfl
    | 5, h => rfl
    | 6, h => rfl
    | 7, h => rfl
    | 8, h => rfl
    | 9, h => rfl
    | 10, h => rfl
    | 11, h => (have hi : ¬ i = 24 := fun q => h ⟨rfl, q⟩; match i, hi with | 0, hi => rfl | 1, hi => rfl | 2, hi => rfl | 3, hi => rfl | 4, hi => rfl | 5, hi => rfl | 6, hi => rfl | 7, hi => rfl | 8, hi => rfl | 9, hi => rfl | 10, hi => rfl | 11, hi => rfl | 12, hi => rfl | 13, hi => rfl | 14, hi => rfl | 15, hi => rfl | 16, hi => rfl | 17, hi => rfl | 18, hi => rfl | 19, hi => rfl | 20, hi => rfl | 21, hi => rfl | 22, hi => rfl | 23, hi => rfl | 24, hi => (exact absurd rfl hi) | (q + 25), hi => rfl)
    | 12, h => rfl
    | 13, h => rfl
    | (n + 14), h => rfl
theorem u_psz {G : Gt} {ad : Nat → Nat → Nat} {Z : Zt} {k v : Nat} (hk : k < xn Z 0 6) : Up G ad Z (sn Z 9 k v) 6 k (.inr (7, ([.ref (ad 7 k), .int (nI (xn Z 9 k))] : List Value).set 1 (.int (nI v)))) := by
  refine ⟨?_, ?_⟩
  · rw [e_pile (show k < xn (sn Z 9 k v) 0 6 from hk)]; simp [xi_si, xi_sl, xi_sn, xi_sc, xl_si, xl_sl, xl_sn, xl_sc, xn_si, xn_sl, xn_sn, xn_sc, xc_si, xc_sl, xc_sn, xc_sc] <;> rfl
  · intro o i h
    match o, h with
    | 0, h => rfl
    | 1, h => rfl
    | 2, h => rfl
    | 3, h => rfl
    | 4, h => rfl
    | 5, h => rfl
    | 6, h => (have hi : ¬ i = k := fun q => h ⟨rfl, q⟩; simp only [ent, hi, hi, and_false, if_false, xi_si, xi_sl, xi_sn, xi_sc, xl_si, xl_sl, xl_sn, xl_sc, xn_si, xn_sl, xn_sn, xn_sc, xc_si, xc_sl, xc_sn, xc_sc] <;> rfl)
    | 7, h => rfl
    | 8, h => rfl
    | 9, h => rfl
    | 10, h => rfl
    | 11, h => rfl
    | 12, h => rfl
    | 13, h => rfl
    | (n + 14), h => rfl
theorem u_pka {G : Gt} {ad : Nat → Nat → Nat} {Z : Zt} {k j q : Nat} (hk : k < xn Z 0 7) : Up G ad Z (sc Z 7 k j (q + 1)) 7 k (rfA (gK G) 40 (va_up (pileA ad Z k) j (some (ad 1 q)))) := by
  refine ⟨?_, ?_⟩
  · rw [e_pka (show k < xn (sc Z 7 k j (q + 1)) 0 7 from hk)]; congr 6; funext r; by_cases hr : r = j <;> simp [va_up, pileA, xc_sc, hr]
  · intro o i h
    match o, h with
    | 0, h => rfl
    | 1, h => rfl
    | 2, h => rfl
    | 3, h => rfl
    | 4, h => rfl
    | 5, h => rfl
    | 6, h => rfl
    | 7, h => (have hi : ¬ i = k := fun q => h ⟨rfl, q⟩; have e : pileA ad (sc Z 7 k j (q + 1)) i = pileA ad Z i := (by funext r; simp [pileA, xc_sc, hi]); simp only [ent, e, xn_sc])
    | 8, h => rfl
    | 9, h => rfl
    | 10, h => rfl
    | 11, h => rfl
    | 12, h => rfl
    | 13, h => rfl
    | (n + 14), h => rfl
theorem u_arr {G : Gt} {ad : Nat → Nat → Nat} {Z : Zt} {k j v : Nat} (hk : k < xn Z 0 5) : Up G ad Z (sc Z 5 k j v) 5 k (inA (gI G) 8 (upd (fun j => nI (xc Z 5 k j)) j (nI v))) := by
  refine ⟨?_, ?_⟩
  · rw [e_arr (show k < xn (sc Z 5 k j v) 0 5 from hk)]; congr 3; funext r; by_cases hr : r = j <;> simp [upd, xc_sc, hr]
  · intro o i h
    match o, h with
    | 0, h => rfl
    | 1, h => rfl
    | 2, h => rfl
    | 3, h => rfl
    | 4, h => rfl
    | 5, h => (have hi : ¬ i = k := fun q => h ⟨rfl, q⟩; simp only [ent, hi, false_and, hi, and_false, if_false, xi_si, xi_sl, xi_sn, xi_sc, xl_si, xl_sl, xl_sn, xl_sc, xn_si, xn_sl, xn_sn, xn_sc, xc_si, xc_sl, xc_sn, xc_sc] <;> rfl)
    | 6, h => rfl
    | 7, h => rfl
    | 8, h => rfl
    | 9, h => rfl
    | 10, h => rfl
    | 11, h => rfl
    | 12, h => rfl
    | 13, h => rfl
    | (n + 14), h => rfl
theorem u_modc {G : Gt} {ad : Nat → Nat → Nat} {Z : Zt} {k : Nat} {v : Int32} (hk : k < xn Z 0 3) : Up G ad Z (si Z 16 k v) 3 k (.inr (8, (listF G ad Z k).set 0 (.int v))) := by
  refine ⟨?_, ?_⟩
  · rw [e_list (show k < xn (si Z 16 k v) 0 3 from hk)]; simp [xi_si, xi_sl, xi_sn, xi_sc, xl_si, xl_sl, xl_sn, xl_sc, xn_si, xn_sl, xn_sn, xn_sc, xc_si, xc_sl, xc_sn, xc_sc] <;> rfl
  · intro o i h
    match o, h with
    | 0, h => rfl
    | 1, h => rfl
    | 2, h => rfl
    | 3, h => (have hi : ¬ i = k := fun q => h ⟨rfl, q⟩; simp only [ent, listF, hi, hi, and_false, if_false, xi_si, xi_sl, xi_sn, xi_sc, xl_si, xl_sl, xl_sn, xl_sc, xn_si, xn_sl, xn_sn, xn_sc, xc_si, xc_sl, xc_sn, xc_sc] <;> rfl)
    | 4, h => rfl
    | 5, h => rfl
    | 6, h => rfl
    | 7, h => rfl
    | 8, h => rfl
    | 9, h => rfl
    | 10, h => rfl
    | 11, h => rfl
    | 12, h => rfl
    | 13, h => rfl
    | (n + 14), h => rfl
theorem u_lsz {G : Gt} {ad : Nat → Nat → Nat} {Z : Zt} {k v : Nat} (hk : k < xn Z 0 3) : Up G ad Z (sn Z 2 k v) 3 k (.inr (8, (listF G ad Z k).set 2 (.int (nI v)))) := by
  refine ⟨?_, ?_⟩
  · rw [e_list (show k < xn (sn Z 2 k v) 0 3 from hk)]; simp [xi_si, xi_sl, xi_sn, xi_sc, xl_si, xl_sl, xl_sn, xl_sc, xn_si, xn_sl, xn_sn, xn_sc, xc_si, xc_sl, xc_sn, xc_sc] <;> rfl
  · intro o i h
    match o, h with
    | 0, h => rfl
    | 1, h => rfl
    | 2, h => rfl
    | 3, h => (have hi : ¬ i = k := fun q => h ⟨rfl, q⟩; simp only [ent, listF, hi, hi, and_false, if_false, xi_si, xi_sl, xi_sn, xi_sc, xl_si, xl_sl, xl_sn, xl_sc, xn_si, xn_sl, xn_sn, xn_sc, xc_si, xc_sl, xc_sn, xc_sc] <;> rfl)
    | 4, h => rfl
    | 5, h => rfl
    | 6, h => rfl
    | 7, h => rfl
    | 8, h => rfl
    | 9, h => rfl
    | 10, h => rfl
    | 11, h => rfl
    | 12, h => rfl
    | 13, h => rfl
    | (n + 14), h => rfl
theorem u_elem {G : Gt} {ad : Nat → Nat → Nat} {Z : Zt} {k j q : Nat} (hk : k < xn Z 0 4) (hc : xn Z 3 k ≠ 0) : Up G ad Z (sc Z 4 k j (q + 1)) 4 k (rfA (gO G) (xn Z 3 k) (va_up (elemF ad Z k) j (some (ad 1 q)))) := by
  refine ⟨?_, ?_⟩
  · have e : elemF ad (sc Z 4 k j (q + 1)) k = va_up (elemF ad Z k) j (some (ad 1 q)) := (by funext r; by_cases hr : r = j <;> simp [va_up, elemF, xc_sc, hr]); rw [e_elem (show k < xn (sc Z 4 k j (q + 1)) 0 4 from hk) (show xn (sc Z 4 k j (q + 1)) 3 k ≠ 0 from hc), e]; rfl
  · intro o i h
    match o, h with
    | 0, h => rfl
    | 1, h => rfl
    | 2, h => rfl
    | 3, h => rfl
    | 4, h => (have hi : ¬ i = k := fun q => h ⟨rfl, q⟩; have e : elemF ad (sc Z 4 k j (q + 1)) i = elemF ad Z i := (by funext r; simp [elemF, xc_sc, hi]); simp only [ent, e, xn_sc])
    | 5, h => rfl
    | 6, h => rfl
    | 7, h => rfl
    | 8, h => rfl
    | 9, h => rfl
    | 10, h => rfl
    | 11, h => rfl
    | 12, h => rfl
    | 13, h => rfl
    | (n + 14), h => rfl
theorem u_elemN {G : Gt} {ad : Nat → Nat → Nat} {Z : Zt} {k j : Nat} (hk : k < xn Z 0 4) (hc : xn Z 3 k ≠ 0) : Up G ad Z (sc Z 4 k j 0) 4 k (rfA (gO G) (xn Z 3 k) (va_up (elemF ad Z k) j none)) := by
  refine ⟨?_, ?_⟩
  · have e : elemF ad (sc Z 4 k j 0) k = va_up (elemF ad Z k) j none := (by funext r; by_cases hr : r = j <;> simp [va_up, elemF, xc_sc, hr]); rw [e_elem (show k < xn (sc Z 4 k j 0) 0 4 from hk) (show xn (sc Z 4 k j 0) 3 k ≠ 0 from hc), e]; rfl
  · intro o i h
    match o, h with
    | 0, h => rfl
    | 1, h => rfl
    | 2, h => rfl
    | 3, h => rfl
    | 4, h => (have hi : ¬ i = k := fun q => h ⟨rfl, q⟩; have e : elemF ad (sc Z 4 k j 0) i = elemF ad Z i := (by funext r; simp [elemF, xc_sc, hi]); simp only [ent, e, xn_sc])
    | 5, h => rfl
    | 6, h => rfl
    | 7, h => rfl
    | 8, h => rfl
    | 9, h => rfl
    | 10, h => rfl
    | 11, h => rfl
    | 12, h => rfl
    | 13, h => rfl
    | (n + 14), h => rfl
theorem e_f0 {G : Gt} {ad : Nat → Nat → Nat} {Z : Zt} {k : Nat} (h : k < xn Z 0 2) (hk : xn Z 1 k = 0) : ent G ad Z 2 k = some (.inr (2, [.int (xi Z 10 k), .int (xi Z 11 k), .long (xl Z 2 k), .int (xi Z 12 k), .int 0])) := by
  rw [e_fn h]; unfold fnE; rw [hk]; rfl
theorem u_f0_many {G : Gt} {ad : Nat → Nat → Nat} {Z : Zt} {k : Nat} {v : Int32} (hq : k < xn Z 0 2) (hk : xn Z 1 k = 0) : Up G ad Z (si Z 10 k v) 2 k (.inr (2, ([.int (xi Z 10 k), .int (xi Z 11 k), .long (xl Z 2 k), .int (xi Z 12 k), .int 0] : List Value).set 0 (.int v))) := by
  refine ⟨?_, ?_⟩
  · rw [e_f0 (show k < xn (si Z 10 k v) 0 2 from hq) (show xn (si Z 10 k v) 1 k = 0 from hk)]; simp [xi_si, xi_sl, xi_sn, xi_sc, xl_si, xl_sl, xl_sn, xl_sc, xn_si, xn_sl, xn_sn, xn_sc, xc_si, xc_sl, xc_sn, xc_sc]
  · intro o i h
    match o, h with
    | 0, h => rfl
    | 1, h => rfl
    | 2, h => (have hi : ¬ i = k := fun q => h ⟨rfl, q⟩; simp only [ent, fnE, fnF, hi, and_false, if_false, xi_si, xi_sl, xi_sn, xi_sc, xl_si, xl_sl, xl_sn, xl_sc, xn_si, xn_sl, xn_sn, xn_sc, xc_si, xc_sl, xc_sn, xc_sc] <;> rfl)
    | 3, h => rfl
    | 4, h => rfl
    | 5, h => rfl
    | 6, h => rfl
    | 7, h => rfl
    | 8, h => rfl
    | 9, h => rfl
    | 10, h => rfl
    | 11, h => rfl
    | 12, h => rfl
    | 13, h => rfl
    | (n + 14), h => rfl
theorem u_f0_place {G : Gt} {ad : Nat → Nat → Nat} {Z : Zt} {k : Nat} {v : Int32} (hq : k < xn Z 0 2) (hk : xn Z 1 k = 0) : Up G ad Z (si Z 11 k v) 2 k (.inr (2, ([.int (xi Z 10 k), .int (xi Z 11 k), .long (xl Z 2 k), .int (xi Z 12 k), .int 0] : List Value).set 1 (.int v))) := by
  refine ⟨?_, ?_⟩
  · rw [e_f0 (show k < xn (si Z 11 k v) 0 2 from hq) (show xn (si Z 11 k v) 1 k = 0 from hk)]; simp [xi_si, xi_sl, xi_sn, xi_sc, xl_si, xl_sl, xl_sn, xl_sc, xn_si, xn_sl, xn_sn, xn_sc, xc_si, xc_sl, xc_sn, xc_sc]
  · intro o i h
    match o, h with
    | 0, h => rfl
    | 1, h => rfl
    | 2, h => (have hi : ¬ i = k := fun q => h ⟨rfl, q⟩; simp only [ent, fnE, fnF, hi, and_false, if_false, xi_si, xi_sl, xi_sn, xi_sc, xl_si, xl_sl, xl_sn, xl_sc, xn_si, xn_sl, xn_sn, xn_sc, xc_si, xc_sl, xc_sn, xc_sc] <;> rfl)
    | 3, h => rfl
    | 4, h => rfl
    | 5, h => rfl
    | 6, h => rfl
    | 7, h => rfl
    | 8, h => rfl
    | 9, h => rfl
    | 10, h => rfl
    | 11, h => rfl
    | 12, h => rfl
    | 13, h => rfl
    | (n + 14), h => rfl
theorem u_f0_fv {G : Gt} {ad : Nat → Nat → Nat} {Z : Zt} {k : Nat} {v : Int64} (hq : k < xn Z 0 2) (hk : xn Z 1 k = 0) : Up G ad Z (sl Z 2 k v) 2 k (.inr (2, ([.int (xi Z 10 k), .int (xi Z 11 k), .long (xl Z 2 k), .int (xi Z 12 k), .int 0] : List Value).set 2 (.long v))) := by
  refine ⟨?_, ?_⟩
  · rw [e_f0 (show k < xn (sl Z 2 k v) 0 2 from hq) (show xn (sl Z 2 k v) 1 k = 0 from hk)]; simp [xi_si, xi_sl, xi_sn, xi_sc, xl_si, xl_sl, xl_sn, xl_sc, xn_si, xn_sl, xn_sn, xn_sc, xc_si, xc_sl, xc_sn, xc_sc]
  · intro o i h
    match o, h with
    | 0, h => rfl
    | 1, h => rfl
    | 2, h => (have hi : ¬ i = k := fun q => h ⟨rfl, q⟩; simp only [ent, fnE, fnF, hi, and_false, if_false, xi_si, xi_sl, xi_sn, xi_sc, xl_si, xl_sl, xl_sn, xl_sc, xn_si, xn_sl, xn_sn, xn_sc, xc_si, xc_sl, xc_sn, xc_sc] <;> rfl)
    | 3, h => rfl
    | 4, h => rfl
    | 5, h => rfl
    | 6, h => rfl
    | 7, h => rfl
    | 8, h => rfl
    | 9, h => rfl
    | 10, h => rfl
    | 11, h => rfl
    | 12, h => rfl
    | 13, h => rfl
    | (n + 14), h => rfl
theorem u_f0_failed {G : Gt} {ad : Nat → Nat → Nat} {Z : Zt} {k : Nat} {v : Int32} (hq : k < xn Z 0 2) (hk : xn Z 1 k = 0) : Up G ad Z (si Z 12 k v) 2 k (.inr (2, ([.int (xi Z 10 k), .int (xi Z 11 k), .long (xl Z 2 k), .int (xi Z 12 k), .int 0] : List Value).set 3 (.int v))) := by
  refine ⟨?_, ?_⟩
  · rw [e_f0 (show k < xn (si Z 12 k v) 0 2 from hq) (show xn (si Z 12 k v) 1 k = 0 from hk)]; simp [xi_si, xi_sl, xi_sn, xi_sc, xl_si, xl_sl, xl_sn, xl_sc, xn_si, xn_sl, xn_sn, xn_sc, xc_si, xc_sl, xc_sn, xc_sc]
  · intro o i h
    match o, h with
    | 0, h => rfl
    | 1, h => rfl
    | 2, h => (have hi : ¬ i = k := fun q => h ⟨rfl, q⟩; simp only [ent, fnE, fnF, hi, and_false, if_false, xi_si, xi_sl, xi_sn, xi_sc, xl_si, xl_sl, xl_sn, xl_sc, xn_si, xn_sl, xn_sn, xn_sc, xc_si, xc_sl, xc_sn, xc_sc] <;> rfl)
    | 3, h => rfl
    | 4, h => rfl
    | 5, h => rfl
    | 6, h => rfl
    | 7, h => rfl
    | 8, h => rfl
    | 9, h => rfl
    | 10, h => rfl
    | 11, h => rfl
    | 12, h => rfl
    | 13, h => rfl
    | (n + 14), h => rfl
theorem e_f1 {G : Gt} {ad : Nat → Nat → Nat} {Z : Zt} {k : Nat} (h : k < xn Z 0 2) (hk : xn Z 1 k = 1) : ent G ad Z 2 k = some (.inr (3, [.int (xi Z 10 k), .int (xi Z 11 k), .long (xl Z 2 k), .int (xi Z 12 k)])) := by
  rw [e_fn h]; unfold fnE; rw [hk]; rfl
theorem u_f1_many {G : Gt} {ad : Nat → Nat → Nat} {Z : Zt} {k : Nat} {v : Int32} (hq : k < xn Z 0 2) (hk : xn Z 1 k = 1) : Up G ad Z (si Z 10 k v) 2 k (.inr (3, ([.int (xi Z 10 k), .int (xi Z 11 k), .long (xl Z 2 k), .int (xi Z 12 k)] : List Value).set 0 (.int v))) := by
  refine ⟨?_, ?_⟩
  · rw [e_f1 (show k < xn (si Z 10 k v) 0 2 from hq) (show xn (si Z 10 k v) 1 k = 1 from hk)]; simp [xi_si, xi_sl, xi_sn, xi_sc, xl_si, xl_sl, xl_sn, xl_sc, xn_si, xn_sl, xn_sn, xn_sc, xc_si, xc_sl, xc_sn, xc_sc]
  · intro o i h
    match o, h with
    | 0, h => rfl
    | 1, h => rfl
    | 2, h => (have hi : ¬ i = k := fun q => h ⟨rfl, q⟩; simp only [ent, fnE, fnF, hi, and_false, if_false, xi_si, xi_sl, xi_sn, xi_sc, xl_si, xl_sl, xl_sn, xl_sc, xn_si, xn_sl, xn_sn, xn_sc, xc_si, xc_sl, xc_sn, xc_sc] <;> rfl)
    | 3, h => rfl
    | 4, h => rfl
    | 5, h => rfl
    | 6, h => rfl
    | 7, h => rfl
    | 8, h => rfl
    | 9, h => rfl
    | 10, h => rfl
    | 11, h => rfl
    | 12, h => rfl
    | 13, h => rfl
    | (n + 14), h => rfl
theorem u_f1_place {G : Gt} {ad : Nat → Nat → Nat} {Z : Zt} {k : Nat} {v : Int32} (hq : k < xn Z 0 2) (hk : xn Z 1 k = 1) : Up G ad Z (si Z 11 k v) 2 k (.inr (3, ([.int (xi Z 10 k), .int (xi Z 11 k), .long (xl Z 2 k), .int (xi Z 12 k)] : List Value).set 1 (.int v))) := by
  refine ⟨?_, ?_⟩
  · rw [e_f1 (show k < xn (si Z 11 k v) 0 2 from hq) (show xn (si Z 11 k v) 1 k = 1 from hk)]; simp [xi_si, xi_sl, xi_sn, xi_sc, xl_si, xl_sl, xl_sn, xl_sc, xn_si, xn_sl, xn_sn, xn_sc, xc_si, xc_sl, xc_sn, xc_sc]
  · intro o i h
    match o, h with
    | 0, h => rfl
    | 1, h => rfl
    | 2, h => (have hi : ¬ i = k := fun q => h ⟨rfl, q⟩; simp only [ent, fnE, fnF, hi, and_false, if_false, xi_si, xi_sl, xi_sn, xi_sc, xl_si, xl_sl, xl_sn, xl_sc, xn_si, xn_sl, xn_sn, xn_sc, xc_si, xc_sl, xc_sn, xc_sc] <;> rfl)
    | 3, h => rfl
    | 4, h => rfl
    | 5, h => rfl
    | 6, h => rfl
    | 7, h => rfl
    | 8, h => rfl
    | 9, h => rfl
    | 10, h => rfl
    | 11, h => rfl
    | 12, h => rfl
    | 13, h => rfl
    | (n + 14), h => rfl
theorem u_f1_fv {G : Gt} {ad : Nat → Nat → Nat} {Z : Zt} {k : Nat} {v : Int64} (hq : k < xn Z 0 2) (hk : xn Z 1 k = 1) : Up G ad Z (sl Z 2 k v) 2 k (.inr (3, ([.int (xi Z 10 k), .int (xi Z 11 k), .long (xl Z 2 k), .int (xi Z 12 k)] : List Value).set 2 (.long v))) := by
  refine ⟨?_, ?_⟩
  · rw [e_f1 (show k < xn (sl Z 2 k v) 0 2 from hq) (show xn (sl Z 2 k v) 1 k = 1 from hk)]; simp [xi_si, xi_sl, xi_sn, xi_sc, xl_si, xl_sl, xl_sn, xl_sc, xn_si, xn_sl, xn_sn, xn_sc, xc_si, xc_sl, xc_sn, xc_sc]
  · intro o i h
    match o, h with
    | 0, h => rfl
    | 1, h => rfl
    | 2, h => (have hi : ¬ i = k := fun q => h ⟨rfl, q⟩; simp only [ent, fnE, fnF, hi, and_false, if_false, xi_si, xi_sl, xi_sn, xi_sc, xl_si, xl_sl, xl_sn, xl_sc, xn_si, xn_sl, xn_sn, xn_sc, xc_si, xc_sl, xc_sn, xc_sc] <;> rfl)
    | 3, h => rfl
    | 4, h => rfl
    | 5, h => rfl
    | 6, h => rfl
    | 7, h => rfl
    | 8, h => rfl
    | 9, h => rfl
    | 10, h => rfl
    | 11, h => rfl
    | 12, h => rfl
    | 13, h => rfl
    | (n + 14), h => rfl
theorem u_f1_failed {G : Gt} {ad : Nat → Nat → Nat} {Z : Zt} {k : Nat} {v : Int32} (hq : k < xn Z 0 2) (hk : xn Z 1 k = 1) : Up G ad Z (si Z 12 k v) 2 k (.inr (3, ([.int (xi Z 10 k), .int (xi Z 11 k), .long (xl Z 2 k), .int (xi Z 12 k)] : List Value).set 3 (.int v))) := by
  refine ⟨?_, ?_⟩
  · rw [e_f1 (show k < xn (si Z 12 k v) 0 2 from hq) (show xn (si Z 12 k v) 1 k = 1 from hk)]; simp [xi_si, xi_sl, xi_sn, xi_sc, xl_si, xl_sl, xl_sn, xl_sc, xn_si, xn_sl, xn_sn, xn_sc, xc_si, xc_sl, xc_sn, xc_sc]
  · intro o i h
    match o, h with
    | 0, h => rfl
    | 1, h => rfl
    | 2, h => (have hi : ¬ i = k := fun q => h ⟨rfl, q⟩; simp only [ent, fnE, fnF, hi, and_false, if_false, xi_si, xi_sl, xi_sn, xi_sc, xl_si, xl_sl, xl_sn, xl_sc, xn_si, xn_sl, xn_sn, xn_sc, xc_si, xc_sl, xc_sn, xc_sc] <;> rfl)
    | 3, h => rfl
    | 4, h => rfl
    | 5, h => rfl
    | 6, h => rfl
    | 7, h => rfl
    | 8, h => rfl
    | 9, h => rfl
    | 10, h => rfl
    | 11, h => rfl
    | 12, h => rfl
    | 13, h => rfl
    | (n + 14), h => rfl
theorem e_f2 {G : Gt} {ad : Nat → Nat → Nat} {Z : Zt} {k : Nat} (h : k < xn Z 0 2) (hk : xn Z 1 k = 2) : ent G ad Z 2 k = some (.inr (4, [.int (xi Z 10 k), .int (xi Z 11 k), .long (xl Z 2 k), .int (xi Z 12 k), .int (xi Z 13 k)])) := by
  rw [e_fn h]; unfold fnE; rw [hk]; rfl
theorem u_f2_many {G : Gt} {ad : Nat → Nat → Nat} {Z : Zt} {k : Nat} {v : Int32} (hq : k < xn Z 0 2) (hk : xn Z 1 k = 2) : Up G ad Z (si Z 10 k v) 2 k (.inr (4, ([.int (xi Z 10 k), .int (xi Z 11 k), .long (xl Z 2 k), .int (xi Z 12 k), .int (xi Z 13 k)] : List Value).set 0 (.int v))) := by
  refine ⟨?_, ?_⟩
  · rw [e_f2 (show k < xn (si Z 10 k v) 0 2 from hq) (show xn (si Z 10 k v) 1 k = 2 from hk)]; simp [xi_si, xi_sl, xi_sn, xi_sc, xl_si, xl_sl, xl_sn, xl_sc, xn_si, xn_sl, xn_sn, xn_sc, xc_si, xc_sl, xc_sn, xc_sc]
  · intro o i h
    match o, h with
    | 0, h => rfl
    | 1, h => rfl
    | 2, h => (have hi : ¬ i = k := fun q => h ⟨rfl, q⟩; simp only [ent, fnE, fnF, hi, and_false, if_false, xi_si, xi_sl, xi_sn, xi_sc, xl_si, xl_sl, xl_sn, xl_sc, xn_si, xn_sl, xn_sn, xn_sc, xc_si, xc_sl, xc_sn, xc_sc] <;> rfl)
    | 3, h => rfl
    | 4, h => rfl
    | 5, h => rfl
    | 6, h => rfl
    | 7, h => rfl
    | 8, h => rfl
    | 9, h => rfl
    | 10, h => rfl
    | 11, h => rfl
    | 12, h => rfl
    | 13, h => rfl
    | (n + 14), h => rfl
theorem u_f2_place {G : Gt} {ad : Nat → Nat → Nat} {Z : Zt} {k : Nat} {v : Int32} (hq : k < xn Z 0 2) (hk : xn Z 1 k = 2) : Up G ad Z (si Z 11 k v) 2 k (.inr (4, ([.int (xi Z 10 k), .int (xi Z 11 k), .long (xl Z 2 k), .int (xi Z 12 k), .int (xi Z 13 k)] : List Value).set 1 (.int v))) := by
  refine ⟨?_, ?_⟩
  · rw [e_f2 (show k < xn (si Z 11 k v) 0 2 from hq) (show xn (si Z 11 k v) 1 k = 2 from hk)]; simp [xi_si, xi_sl, xi_sn, xi_sc, xl_si, xl_sl, xl_sn, xl_sc, xn_si, xn_sl, xn_sn, xn_sc, xc_si, xc_sl, xc_sn, xc_sc]
  · intro o i h
    match o, h with
    | 0, h => rfl
    | 1, h => rfl
    | 2, h => (have hi : ¬ i = k := fun q => h ⟨rfl, q⟩; simp only [ent, fnE, fnF, hi, and_false, if_false, xi_si, xi_sl, xi_sn, xi_sc, xl_si, xl_sl, xl_sn, xl_sc, xn_si, xn_sl, xn_sn, xn_sc, xc_si, xc_sl, xc_sn, xc_sc] <;> rfl)
    | 3, h => rfl
    | 4, h => rfl
    | 5, h => rfl
    | 6, h => rfl
    | 7, h => rfl
    | 8, h => rfl
    | 9, h => rfl
    | 10, h => rfl
    | 11, h => rfl
    | 12, h => rfl
    | 13, h => rfl
    | (n + 14), h => rfl
theorem u_f2_fv {G : Gt} {ad : Nat → Nat → Nat} {Z : Zt} {k : Nat} {v : Int64} (hq : k < xn Z 0 2) (hk : xn Z 1 k = 2) : Up G ad Z (sl Z 2 k v) 2 k (.inr (4, ([.int (xi Z 10 k), .int (xi Z 11 k), .long (xl Z 2 k), .int (xi Z 12 k), .int (xi Z 13 k)] : List Value).set 2 (.long v))) := by
  refine ⟨?_, ?_⟩
  · rw [e_f2 (show k < xn (sl Z 2 k v) 0 2 from hq) (show xn (sl Z 2 k v) 1 k = 2 from hk)]; simp [xi_si, xi_sl, xi_sn, xi_sc, xl_si, xl_sl, xl_sn, xl_sc, xn_si, xn_sl, xn_sn, xn_sc, xc_si, xc_sl, xc_sn, xc_sc]
  · intro o i h
    match o, h with
    | 0, h => rfl
    | 1, h => rfl
    | 2, h => (have hi : ¬ i = k := fun q => h ⟨rfl, q⟩; simp only [ent, fnE, fnF, hi, and_false, if_false, xi_si, xi_sl, xi_sn, xi_sc, xl_si, xl_sl, xl_sn, xl_sc, xn_si, xn_sl, xn_sn, xn_sc, xc_si, xc_sl, xc_sn, xc_sc] <;> rfl)
    | 3, h => rfl
    | 4, h => rfl
    | 5, h => rfl
    | 6, h => rfl
    | 7, h => rfl
    | 8, h => rfl
    | 9, h => rfl
    | 10, h => rfl
    | 11, h => rfl
    | 12, h => rfl
    | 13, h => rfl
    | (n + 14), h => rfl
theorem u_f2_failed {G : Gt} {ad : Nat → Nat → Nat} {Z : Zt} {k : Nat} {v : Int32} (hq : k < xn Z 0 2) (hk : xn Z 1 k = 2) : Up G ad Z (si Z 12 k v) 2 k (.inr (4, ([.int (xi Z 10 k), .int (xi Z 11 k), .long (xl Z 2 k), .int (xi Z 12 k), .int (xi Z 13 k)] : List Value).set 3 (.int v))) := by
  refine ⟨?_, ?_⟩
  · rw [e_f2 (show k < xn (si Z 12 k v) 0 2 from hq) (show xn (si Z 12 k v) 1 k = 2 from hk)]; simp [xi_si, xi_sl, xi_sn, xi_sc, xl_si, xl_sl, xl_sn, xl_sc, xn_si, xn_sl, xn_sn, xn_sc, xc_si, xc_sl, xc_sn, xc_sc]
  · intro o i h
    match o, h with
    | 0, h => rfl
    | 1, h => rfl
    | 2, h => (have hi : ¬ i = k := fun q => h ⟨rfl, q⟩; simp only [ent, fnE, fnF, hi, and_false, if_false, xi_si, xi_sl, xi_sn, xi_sc, xl_si, xl_sl, xl_sn, xl_sc, xn_si, xn_sl, xn_sn, xn_sc, xc_si, xc_sl, xc_sn, xc_sc] <;> rfl)
    | 3, h => rfl
    | 4, h => rfl
    | 5, h => rfl
    | 6, h => rfl
    | 7, h => rfl
    | 8, h => rfl
    | 9, h => rfl
    | 10, h => rfl
    | 11, h => rfl
    | 12, h => rfl
    | 13, h => rfl
    | (n + 14), h => rfl
theorem u_f2_chosen {G : Gt} {ad : Nat → Nat → Nat} {Z : Zt} {k : Nat} {v : Int32} (hq : k < xn Z 0 2) (hk : xn Z 1 k = 2) : Up G ad Z (si Z 13 k v) 2 k (.inr (4, ([.int (xi Z 10 k), .int (xi Z 11 k), .long (xl Z 2 k), .int (xi Z 12 k), .int (xi Z 13 k)] : List Value).set 4 (.int v))) := by
  refine ⟨?_, ?_⟩
  · rw [e_f2 (show k < xn (si Z 13 k v) 0 2 from hq) (show xn (si Z 13 k v) 1 k = 2 from hk)]; simp [xi_si, xi_sl, xi_sn, xi_sc, xl_si, xl_sl, xl_sn, xl_sc, xn_si, xn_sl, xn_sn, xn_sc, xc_si, xc_sl, xc_sn, xc_sc]
  · intro o i h
    match o, h with
    | 0, h => rfl
    | 1, h => rfl
    | 2, h => (have hi : ¬ i = k := fun q => h ⟨rfl, q⟩; simp only [ent, fnE, fnF, hi, and_false, if_false, xi_si, xi_sl, xi_sn, xi_sc, xl_si, xl_sl, xl_sn, xl_sc, xn_si, xn_sl, xn_sn, xn_sc, xc_si, xc_sl, xc_sn, xc_sc] <;> rfl)
    | 3, h => rfl
    | 4, h => rfl
    | 5, h => rfl
    | 6, h => rfl
    | 7, h => rfl
    | 8, h => rfl
    | 9, h => rfl
    | 10, h => rfl
    | 11, h => rfl
    | 12, h => rfl
    | 13, h => rfl
    | (n + 14), h => rfl
theorem e_f3 {G : Gt} {ad : Nat → Nat → Nat} {Z : Zt} {k : Nat} (h : k < xn Z 0 2) (hk : xn Z 1 k = 3) : ent G ad Z 2 k = some (.inr (5, [.int (xi Z 10 k), .int (xi Z 11 k), .long (xl Z 2 k), .int (xi Z 12 k)])) := by
  rw [e_fn h]; unfold fnE; rw [hk]; rfl
theorem u_f3_many {G : Gt} {ad : Nat → Nat → Nat} {Z : Zt} {k : Nat} {v : Int32} (hq : k < xn Z 0 2) (hk : xn Z 1 k = 3) : Up G ad Z (si Z 10 k v) 2 k (.inr (5, ([.int (xi Z 10 k), .int (xi Z 11 k), .long (xl Z 2 k), .int (xi Z 12 k)] : List Value).set 0 (.int v))) := by
  refine ⟨?_, ?_⟩
  · rw [e_f3 (show k < xn (si Z 10 k v) 0 2 from hq) (show xn (si Z 10 k v) 1 k = 3 from hk)]; simp [xi_si, xi_sl, xi_sn, xi_sc, xl_si, xl_sl, xl_sn, xl_sc, xn_si, xn_sl, xn_sn, xn_sc, xc_si, xc_sl, xc_sn, xc_sc]
  · intro o i h
    match o, h with
    | 0, h => rfl
    | 1, h => rfl
    | 2, h => (have hi : ¬ i = k := fun q => h ⟨rfl, q⟩; simp only [ent, fnE, fnF, hi, and_false, if_false, xi_si, xi_sl, xi_sn, xi_sc, xl_si, xl_sl, xl_sn, xl_sc, xn_si, xn_sl, xn_sn, xn_sc, xc_si, xc_sl, xc_sn, xc_sc] <;> rfl)
    | 3, h => rfl
    | 4, h => rfl
    | 5, h => rfl
    | 6, h => rfl
    | 7, h => rfl
    | 8, h => rfl
    | 9, h => rfl
    | 10, h => rfl
    | 11, h => rfl
    | 12, h => rfl
    | 13, h => rfl
    | (n + 14), h => rfl
theorem u_f3_place {G : Gt} {ad : Nat → Nat → Nat} {Z : Zt} {k : Nat} {v : Int32} (hq : k < xn Z 0 2) (hk : xn Z 1 k = 3) : Up G ad Z (si Z 11 k v) 2 k (.inr (5, ([.int (xi Z 10 k), .int (xi Z 11 k), .long (xl Z 2 k), .int (xi Z 12 k)] : List Value).set 1 (.int v))) := by
  refine ⟨?_, ?_⟩
  · rw [e_f3 (show k < xn (si Z 11 k v) 0 2 from hq) (show xn (si Z 11 k v) 1 k = 3 from hk)]; simp [xi_si, xi_sl, xi_sn, xi_sc, xl_si, xl_sl, xl_sn, xl_sc, xn_si, xn_sl, xn_sn, xn_sc, xc_si, xc_sl, xc_sn, xc_sc]
  · intro o i h
    match o, h with
    | 0, h => rfl
    | 1, h => rfl
    | 2, h => (have hi : ¬ i = k := fun q => h ⟨rfl, q⟩; simp only [ent, fnE, fnF, hi, and_false, if_false, xi_si, xi_sl, xi_sn, xi_sc, xl_si, xl_sl, xl_sn, xl_sc, xn_si, xn_sl, xn_sn, xn_sc, xc_si, xc_sl, xc_sn, xc_sc] <;> rfl)
    | 3, h => rfl
    | 4, h => rfl
    | 5, h => rfl
    | 6, h => rfl
    | 7, h => rfl
    | 8, h => rfl
    | 9, h => rfl
    | 10, h => rfl
    | 11, h => rfl
    | 12, h => rfl
    | 13, h => rfl
    | (n + 14), h => rfl
theorem u_f3_fv {G : Gt} {ad : Nat → Nat → Nat} {Z : Zt} {k : Nat} {v : Int64} (hq : k < xn Z 0 2) (hk : xn Z 1 k = 3) : Up G ad Z (sl Z 2 k v) 2 k (.inr (5, ([.int (xi Z 10 k), .int (xi Z 11 k), .long (xl Z 2 k), .int (xi Z 12 k)] : List Value).set 2 (.long v))) := by
  refine ⟨?_, ?_⟩
  · rw [e_f3 (show k < xn (sl Z 2 k v) 0 2 from hq) (show xn (sl Z 2 k v) 1 k = 3 from hk)]; simp [xi_si, xi_sl, xi_sn, xi_sc, xl_si, xl_sl, xl_sn, xl_sc, xn_si, xn_sl, xn_sn, xn_sc, xc_si, xc_sl, xc_sn, xc_sc]
  · intro o i h
    match o, h with
    | 0, h => rfl
    | 1, h => rfl
    | 2, h => (have hi : ¬ i = k := fun q => h ⟨rfl, q⟩; simp only [ent, fnE, fnF, hi, and_false, if_false, xi_si, xi_sl, xi_sn, xi_sc, xl_si, xl_sl, xl_sn, xl_sc, xn_si, xn_sl, xn_sn, xn_sc, xc_si, xc_sl, xc_sn, xc_sc] <;> rfl)
    | 3, h => rfl
    | 4, h => rfl
    | 5, h => rfl
    | 6, h => rfl
    | 7, h => rfl
    | 8, h => rfl
    | 9, h => rfl
    | 10, h => rfl
    | 11, h => rfl
    | 12, h => rfl
    | 13, h => rfl
    | (n + 14), h => rfl
theorem u_f3_failed {G : Gt} {ad : Nat → Nat → Nat} {Z : Zt} {k : Nat} {v : Int32} (hq : k < xn Z 0 2) (hk : xn Z 1 k = 3) : Up G ad Z (si Z 12 k v) 2 k (.inr (5, ([.int (xi Z 10 k), .int (xi Z 11 k), .long (xl Z 2 k), .int (xi Z 12 k)] : List Value).set 3 (.int v))) := by
  refine ⟨?_, ?_⟩
  · rw [e_f3 (show k < xn (si Z 12 k v) 0 2 from hq) (show xn (si Z 12 k v) 1 k = 3 from hk)]; simp [xi_si, xi_sl, xi_sn, xi_sc, xl_si, xl_sl, xl_sn, xl_sc, xn_si, xn_sl, xn_sn, xn_sc, xc_si, xc_sl, xc_sn, xc_sc]
  · intro o i h
    match o, h with
    | 0, h => rfl
    | 1, h => rfl
    | 2, h => (have hi : ¬ i = k := fun q => h ⟨rfl, q⟩; simp only [ent, fnE, fnF, hi, and_false, if_false, xi_si, xi_sl, xi_sn, xi_sc, xl_si, xl_sl, xl_sn, xl_sc, xn_si, xn_sl, xn_sn, xn_sc, xc_si, xc_sl, xc_sn, xc_sc] <;> rfl)
    | 3, h => rfl
    | 4, h => rfl
    | 5, h => rfl
    | 6, h => rfl
    | 7, h => rfl
    | 8, h => rfl
    | 9, h => rfl
    | 10, h => rfl
    | 11, h => rfl
    | 12, h => rfl
    | 13, h => rfl
    | (n + 14), h => rfl
theorem e_f4 {G : Gt} {ad : Nat → Nat → Nat} {Z : Zt} {k : Nat} (h : k < xn Z 0 2) (hk : xn Z 1 k = 4) : ent G ad Z 2 k = some (.inr (2, [.int (xi Z 10 k), .int (xi Z 11 k), .long (xl Z 2 k), .int (xi Z 12 k), .int 1])) := by
  rw [e_fn h]; unfold fnE; rw [hk]; rfl
theorem u_f4_many {G : Gt} {ad : Nat → Nat → Nat} {Z : Zt} {k : Nat} {v : Int32} (hq : k < xn Z 0 2) (hk : xn Z 1 k = 4) : Up G ad Z (si Z 10 k v) 2 k (.inr (2, ([.int (xi Z 10 k), .int (xi Z 11 k), .long (xl Z 2 k), .int (xi Z 12 k), .int 1] : List Value).set 0 (.int v))) := by
  refine ⟨?_, ?_⟩
  · rw [e_f4 (show k < xn (si Z 10 k v) 0 2 from hq) (show xn (si Z 10 k v) 1 k = 4 from hk)]; simp [xi_si, xi_sl, xi_sn, xi_sc, xl_si, xl_sl, xl_sn, xl_sc, xn_si, xn_sl, xn_sn, xn_sc, xc_si, xc_sl, xc_sn, xc_sc]
  · intro o i h
    match o, h with
    | 0, h => rfl
    | 1, h => rfl
    | 2, h => (have hi : ¬ i = k := fun q => h ⟨rfl, q⟩; simp only [ent, fnE, fnF, hi, and_false, if_false, xi_si, xi_sl, xi_sn, xi_sc, xl_si, xl_sl, xl_sn, xl_sc, xn_si, xn_sl, xn_sn, xn_sc, xc_si, xc_sl, xc_sn, xc_sc] <;> rfl)
    | 3, h => rfl
    | 4, h => rfl
    | 5, h => rfl
    | 6, h => rfl
    | 7, h => rfl
    | 8, h => rfl
    | 9, h => rfl
    | 10, h => rfl
    | 11, h => rfl
    | 12, h => rfl
    | 13, h => rfl
    | (n + 14), h => rfl
theorem u_f4_place {G : Gt} {ad : Nat → Nat → Nat} {Z : Zt} {k : Nat} {v : Int32} (hq : k < xn Z 0 2) (hk : xn Z 1 k = 4) : Up G ad Z (si Z 11 k v) 2 k (.inr (2, ([.int (xi Z 10 k), .int (xi Z 11 k), .long (xl Z 2 k), .int (xi Z 12 k), .int 1] : List Value).set 1 (.int v))) := by
  refine ⟨?_, ?_⟩
  · rw [e_f4 (show k < xn (si Z 11 k v) 0 2 from hq) (show xn (si Z 11 k v) 1 k = 4 from hk)]; simp [xi_si, xi_sl, xi_sn, xi_sc, xl_si, xl_sl, xl_sn, xl_sc, xn_si, xn_sl, xn_sn, xn_sc, xc_si, xc_sl, xc_sn, xc_sc]
  · intro o i h
    match o, h with
    | 0, h => rfl
    | 1, h => rfl
    | 2, h => (have hi : ¬ i = k := fun q => h ⟨rfl, q⟩; simp only [ent, fnE, fnF, hi, and_false, if_false, xi_si, xi_sl, xi_sn, xi_sc, xl_si, xl_sl, xl_sn, xl_sc, xn_si, xn_sl, xn_sn, xn_sc, xc_si, xc_sl, xc_sn, xc_sc] <;> rfl)
    | 3, h => rfl
    | 4, h => rfl
    | 5, h => rfl
    | 6, h => rfl
    | 7, h => rfl
    | 8, h => rfl
    | 9, h => rfl
    | 10, h => rfl
    | 11, h => rfl
    | 12, h => rfl
    | 13, h => rfl
    | (n + 14), h => rfl
theorem u_f4_fv {G : Gt} {ad : Nat → Nat → Nat} {Z : Zt} {k : Nat} {v : Int64} (hq : k < xn Z 0 2) (hk : xn Z 1 k = 4) : Up G ad Z (sl Z 2 k v) 2 k (.inr (2, ([.int (xi Z 10 k), .int (xi Z 11 k), .long (xl Z 2 k), .int (xi Z 12 k), .int 1] : List Value).set 2 (.long v))) := by
  refine ⟨?_, ?_⟩
  · rw [e_f4 (show k < xn (sl Z 2 k v) 0 2 from hq) (show xn (sl Z 2 k v) 1 k = 4 from hk)]; simp [xi_si, xi_sl, xi_sn, xi_sc, xl_si, xl_sl, xl_sn, xl_sc, xn_si, xn_sl, xn_sn, xn_sc, xc_si, xc_sl, xc_sn, xc_sc]
  · intro o i h
    match o, h with
    | 0, h => rfl
    | 1, h => rfl
    | 2, h => (have hi : ¬ i = k := fun q => h ⟨rfl, q⟩; simp only [ent, fnE, fnF, hi, and_false, if_false, xi_si, xi_sl, xi_sn, xi_sc, xl_si, xl_sl, xl_sn, xl_sc, xn_si, xn_sl, xn_sn, xn_sc, xc_si, xc_sl, xc_sn, xc_sc] <;> rfl)
    | 3, h => rfl
    | 4, h => rfl
    | 5, h => rfl
    | 6, h => rfl
    | 7, h => rfl
    | 8, h => rfl
    | 9, h => rfl
    | 10, h => rfl
    | 11, h => rfl
    | 12, h => rfl
    | 13, h => rfl
    | (n + 14), h => rfl
theorem u_f4_failed {G : Gt} {ad : Nat → Nat → Nat} {Z : Zt} {k : Nat} {v : Int32} (hq : k < xn Z 0 2) (hk : xn Z 1 k = 4) : Up G ad Z (si Z 12 k v) 2 k (.inr (2, ([.int (xi Z 10 k), .int (xi Z 11 k), .long (xl Z 2 k), .int (xi Z 12 k), .int 1] : List Value).set 3 (.int v))) := by
  refine ⟨?_, ?_⟩
  · rw [e_f4 (show k < xn (si Z 12 k v) 0 2 from hq) (show xn (si Z 12 k v) 1 k = 4 from hk)]; simp [xi_si, xi_sl, xi_sn, xi_sc, xl_si, xl_sl, xl_sn, xl_sc, xn_si, xn_sl, xn_sn, xn_sc, xc_si, xc_sl, xc_sn, xc_sc]
  · intro o i h
    match o, h with
    | 0, h => rfl
    | 1, h => rfl
    | 2, h => (have hi : ¬ i = k := fun q => h ⟨rfl, q⟩; simp only [ent, fnE, fnF, hi, and_false, if_false, xi_si, xi_sl, xi_sn, xi_sc, xl_si, xl_sl, xl_sn, xl_sc, xn_si, xn_sl, xn_sn, xn_sc, xc_si, xc_sl, xc_sn, xc_sc] <;> rfl)
    | 3, h => rfl
    | 4, h => rfl
    | 5, h => rfl
    | 6, h => rfl
    | 7, h => rfl
    | 8, h => rfl
    | 9, h => rfl
    | 10, h => rfl
    | 11, h => rfl
    | 12, h => rfl
    | 13, h => rfl
    | (n + 14), h => rfl
theorem e_f5 {G : Gt} {ad : Nat → Nat → Nat} {Z : Zt} {k : Nat} (h : k < xn Z 0 2) (hk : xn Z 1 k = 5) : ent G ad Z 2 k = some (.inr (6, [.int (xi Z 10 k), .int (xi Z 11 k), .long (xl Z 2 k), .int (xi Z 12 k)])) := by
  rw [e_fn h]; unfold fnE; rw [hk]; rfl
theorem u_f5_many {G : Gt} {ad : Nat → Nat → Nat} {Z : Zt} {k : Nat} {v : Int32} (hq : k < xn Z 0 2) (hk : xn Z 1 k = 5) : Up G ad Z (si Z 10 k v) 2 k (.inr (6, ([.int (xi Z 10 k), .int (xi Z 11 k), .long (xl Z 2 k), .int (xi Z 12 k)] : List Value).set 0 (.int v))) := by
  refine ⟨?_, ?_⟩
  · rw [e_f5 (show k < xn (si Z 10 k v) 0 2 from hq) (show xn (si Z 10 k v) 1 k = 5 from hk)]; simp [xi_si, xi_sl, xi_sn, xi_sc, xl_si, xl_sl, xl_sn, xl_sc, xn_si, xn_sl, xn_sn, xn_sc, xc_si, xc_sl, xc_sn, xc_sc]
  · intro o i h
    match o, h with
    | 0, h => rfl
    | 1, h => rfl
    | 2, h => (have hi : ¬ i = k := fun q => h ⟨rfl, q⟩; simp only [ent, fnE, fnF, hi, and_false, if_false, xi_si, xi_sl, xi_sn, xi_sc, xl_si, xl_sl, xl_sn, xl_sc, xn_si, xn_sl, xn_sn, xn_sc, xc_si, xc_sl, xc_sn, xc_sc] <;> rfl)
    | 3, h => rfl
    | 4, h => rfl
    | 5, h => rfl
    | 6, h => rfl
    | 7, h => rfl
    | 8, h => rfl
    | 9, h => rfl
    | 10, h => rfl
    | 11, h => rfl
    | 12, h => rfl
    | 13, h => rfl
    | (n + 14), h => rfl
theorem u_f5_place {G : Gt} {ad : Nat → Nat → Nat} {Z : Zt} {k : Nat} {v : Int32} (hq : k < xn Z 0 2) (hk : xn Z 1 k = 5) : Up G ad Z (si Z 11 k v) 2 k (.inr (6, ([.int (xi Z 10 k), .int (xi Z 11 k), .long (xl Z 2 k), .int (xi Z 12 k)] : List Value).set 1 (.int v))) := by
  refine ⟨?_, ?_⟩
  · rw [e_f5 (show k < xn (si Z 11 k v) 0 2 from hq) (show xn (si Z 11 k v) 1 k = 5 from hk)]; simp [xi_si, xi_sl, xi_sn, xi_sc, xl_si, xl_sl, xl_sn, xl_sc, xn_si, xn_sl, xn_sn, xn_sc, xc_si, xc_sl, xc_sn, xc_sc]
  · intro o i h
    match o, h with
    | 0, h => rfl
    | 1, h => rfl
    | 2, h => (have hi : ¬ i = k := fun q => h ⟨rfl, q⟩; simp only [ent, fnE, fnF, hi, and_false, if_false, xi_si, xi_sl, xi_sn, xi_sc, xl_si, xl_sl, xl_sn, xl_sc, xn_si, xn_sl, xn_sn, xn_sc, xc_si, xc_sl, xc_sn, xc_sc] <;> rfl)
    | 3, h => rfl
    | 4, h => rfl
    | 5, h => rfl
    | 6, h => rfl
    | 7, h => rfl
    | 8, h => rfl
    | 9, h => rfl
    | 10, h => rfl
    | 11, h => rfl
    | 12, h => rfl
    | 13, h => rfl
    | (n + 14), h => rfl
theorem u_f5_fv {G : Gt} {ad : Nat → Nat → Nat} {Z : Zt} {k : Nat} {v : Int64} (hq : k < xn Z 0 2) (hk : xn Z 1 k = 5) : Up G ad Z (sl Z 2 k v) 2 k (.inr (6, ([.int (xi Z 10 k), .int (xi Z 11 k), .long (xl Z 2 k), .int (xi Z 12 k)] : List Value).set 2 (.long v))) := by
  refine ⟨?_, ?_⟩
  · rw [e_f5 (show k < xn (sl Z 2 k v) 0 2 from hq) (show xn (sl Z 2 k v) 1 k = 5 from hk)]; simp [xi_si, xi_sl, xi_sn, xi_sc, xl_si, xl_sl, xl_sn, xl_sc, xn_si, xn_sl, xn_sn, xn_sc, xc_si, xc_sl, xc_sn, xc_sc]
  · intro o i h
    match o, h with
    | 0, h => rfl
    | 1, h => rfl
    | 2, h => (have hi : ¬ i = k := fun q => h ⟨rfl, q⟩; simp only [ent, fnE, fnF, hi, and_false, if_false, xi_si, xi_sl, xi_sn, xi_sc, xl_si, xl_sl, xl_sn, xl_sc, xn_si, xn_sl, xn_sn, xn_sc, xc_si, xc_sl, xc_sn, xc_sc] <;> rfl)
    | 3, h => rfl
    | 4, h => rfl
    | 5, h => rfl
    | 6, h => rfl
    | 7, h => rfl
    | 8, h => rfl
    | 9, h => rfl
    | 10, h => rfl
    | 11, h => rfl
    | 12, h => rfl
    | 13, h => rfl
    | (n + 14), h => rfl
theorem u_f5_failed {G : Gt} {ad : Nat → Nat → Nat} {Z : Zt} {k : Nat} {v : Int32} (hq : k < xn Z 0 2) (hk : xn Z 1 k = 5) : Up G ad Z (si Z 12 k v) 2 k (.inr (6, ([.int (xi Z 10 k), .int (xi Z 11 k), .long (xl Z 2 k), .int (xi Z 12 k)] : List Value).set 3 (.int v))) := by
  refine ⟨?_, ?_⟩
  · rw [e_f5 (show k < xn (si Z 12 k v) 0 2 from hq) (show xn (si Z 12 k v) 1 k = 5 from hk)]; simp [xi_si, xi_sl, xi_sn, xi_sc, xl_si, xl_sl, xl_sn, xl_sc, xn_si, xn_sl, xn_sn, xn_sc, xc_si, xc_sl, xc_sn, xc_sc]
  · intro o i h
    match o, h with
    | 0, h => rfl
    | 1, h => rfl
    | 2, h => (have hi : ¬ i = k := fun q => h ⟨rfl, q⟩; simp only [ent, fnE, fnF, hi, and_false, if_false, xi_si, xi_sl, xi_sn, xi_sc, xl_si, xl_sl, xl_sn, xl_sc, xn_si, xn_sl, xn_sn, xn_sc, xc_si, xc_sl, xc_sn, xc_sc] <;> rfl)
    | 3, h => rfl
    | 4, h => rfl
    | 5, h => rfl
    | 6, h => rfl
    | 7, h => rfl
    | 8, h => rfl
    | 9, h => rfl
    | 10, h => rfl
    | 11, h => rfl
    | 12, h => rfl
    | 13, h => rfl
    | (n + 14), h => rfl
theorem u_raw {G : Gt} {ad : Nat → Nat → Nat} {Z : Zt} {k : Nat} {e : va_E} (hk : k < xn Z 0 13) : Up G ad Z (sr Z k (some e)) 13 k (e) := by
  refine ⟨?_, ?_⟩
  · (show (if k < xn Z 0 13 then xr (sr Z k (some e)) k else none) = some e); rw [if_pos hk, xr_sr, if_pos rfl]
  · intro o i h
    match o, h with
    | 0, h => rfl
    | 1, h => rfl
    | 2, h => rfl
    | 3, h => rfl
    | 4, h => rfl
    | 5, h => rfl
    | 6, h => rfl
    | 7, h => rfl
    | 8, h => rfl
    | 9, h => rfl
    | 10, h => rfl
    | 11, h => rfl
    | 12, h => rfl
    | 13, h => (have hi : ¬ i = k := fun q => h ⟨rfl, q⟩; simp only [ent, xr_sr, hi, if_false, xn_sr])
    | (n + 14), h => rfl
theorem e_raw {G : Gt} {ad : Nat → Nat → Nat} {Z : Zt} {k : Nat} {e : va_E} (h : k < xn Z 0 13) (he : xr Z k = some e) : ent G ad Z 13 k = some e := (if_pos h).trans he
