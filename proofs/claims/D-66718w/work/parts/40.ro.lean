/-! contracts that change nothing: free = no cell -/
def fF : Nat → Prop := fun _ => False
theorem zopenF {l : Launch} {G : Gt} {ad : Nat → Nat → Nat} {ow : Nat → Nat × Nat} {Z : Zt} {y : MethodName} {cc : ByteArray} {maxL : Nat} {ret : Option FieldType} {ws : List Cond} {rm : Room} {Qc : Array Value → State → Outcome → State → Prop} {mc ms : Nat} {av : List Value} (hy : plainName y.cls = true) (hw : ws = Cond.code y cc maxL ret :: TT) (hl : (lg_sl av).length ≤ maxL)
    (body : ∀ p e s m below meth c ls, Cx G p c m s av.toArray y.cls cc maxL → meth.sig.returnType = ret → meth.locks = false → meth.name = y.name → Dy G ad ow Z s s.heap [] → lv_has ls maxL (lv_args 0 av) →
      W p l e rm s m av.toArray below meth c s.heap [] 0 0 (MQ below Qc av.toArray s mc ms fF) (F0 m 0 ls [])) : Met l y ws rm (zPc G ad ow Z av) Qc mc ms fF := by
  refine Met.ofW (cc := cc) (maxL := maxL) (ret := ret) hy hw ?_
  intro p e s m args below meth c s₁ B hml hv
  obtain ⟨rfl, hP, hE⟩ := hv
  have hts := atoms_spec (ws := ws) B.pre
  rw [lg_entry_eq]
  exact body p e s m below meth c _ ⟨B.exec, B.bytes, hml, findClass_of_methodNamed B.named, fun w hw' => hts w (by rw [hw]; exact List.mem_cons_of_mem _ hw'), hE⟩ B.returns B.notSynchronized (name_of_methodNamed B.named B.method).1 ⟨hP, va_S.rf, hE.2.2.2.2.2.2.2.2⟩ (lv_entry av hl)
section
variable {p : Program} {l : Launch} {e : Env} {R : Room} {s : State} {m : MethodId} {args : Array Value} {below : List Frame} {meth : Method} {c : Code} {H : Heap} {locs : List Loc} {cells slots : Nat} {Q : State → Prop} {cc : ByteArray} {pc nL : Nat} {ls : Array Slot} {rest : List Value} {G : Gt} {ad : Nat → Nat → Nat} {ow : Nat → Nat × Nat} {Z Z' : Zt} {own : String}
variable {y x : MethodName} {bytes : ByteArray} {maxL mc ms n index : Nat} {ret : Option FieldType} {rm : Room} {Pc : Array Value → State → Prop} {Qc : Array Value → State → Outcome → State → Prop} {As st0 : List Value} {a9 : Array Value} {v : Option Value} {ad' : Nat → Nat → Nat} {ow' : Nat → Nat × Nat}
theorem zrunVF (hC : Cx G p c m s args own cc nL) (hd : Dy G ad ow Z s H locs) {o i ci : Nat} {fs : List Value} (he : ent G ad Z o i = some (.inr (ci, fs))) {C : String} {T : u_T} {N : Nat} (hc : cls[ci]? = some (C, T, N)) (hM : Met l y (Cond.code y bytes maxL ret :: TT) rm (zPc G ad ow Z (.ref (ad o i) :: As)) Qc mc ms fF) (h1 : Cond.methodLink own index y ∈ TT) (h2 : Cond.instanceMethod y ∈ TT) (h3 : Cond.selects C y y ∈ TT) (h4 : Cond.initialized C ∈ TT) (h5 : Cond.code y bytes maxL ret ∈ TT) (hrc : rm.cells = mc) (hrs : rm.slots = ms) (hn : As.length = n)
    (hdd : y.cls = C ∧ y.cls ≠ "java/lang/invoke/MethodHandle" ∧ y.cls ≠ "java/lang/invoke/VarHandle" ∧ (parseMethodDescriptor y.desc).map (fun d => d.parameters.length) = some n) (hR : rm.frames + 1 ≤ R.frames ∧ 8 + (maxL + 11) + rm.locals ≤ R.locals) (hstack : st0 = As.reverse ++ .ref (ad o i) :: rest) (hls : ls.size = nL) (hW : (rest.map fun v => v.category).sum ≤ 8) (hdg : decode cc pc = .ok (.invokevirtual index, 3)) (hf : cells + mc ≤ R.cells ∧ slots + ms ≤ R.slots) :
    va_Run p l e R s m args below meth c H locs cells slots mc ms (F0 m pc ls st0) rest (Qc (Value.ref (ad o i) :: As).toArray) fF :=
  va_runV (As := As) (rest := rest) ⟨hC.1, hC.2.1, hC.2.2.1, hC.2.2.2.1, hC.2.2.2.2.1⟩ hM (cwV n hC.2.2.2.2.1 (gd_app (by intro w hw; simp only [List.mem_cons, List.not_mem_nil, or_false] at hw; rcases hw with rfl | rfl | rfl | rfl <;> assumption) (gd_TT h5)) rfl hrc hrs hdd hR) ⟨zPc.blind, va_recv (q := (C, T, N)) hC.2.2.2.2.2.1 (hd.1.one he) hc (q0 := 0) rfl, fun U hU hW => zPc.of hC hd _ U hU hW⟩ rfl hn hls hstack (lv_room hW) hdg hf
theorem zrunSF (hC : Cx G p c m s args own cc nL) (hd : Dy G ad ow Z s H locs) (hM : Met l y (Cond.code y bytes maxL ret :: TT) rm (zPc G ad ow Z As) Qc mc ms fF) (h1 : Cond.methodLink own index y ∈ TT) (h2 : Cond.static y ∈ TT) (h4 : Cond.initialized y.cls ∈ TT) (h5 : Cond.code y bytes maxL ret ∈ TT) (hrc : rm.cells = mc) (hrs : rm.slots = ms) (hn : As.length = n)
    (hdd : y.cls ≠ "java/lang/invoke/MethodHandle" ∧ y.cls ≠ "java/lang/invoke/VarHandle" ∧ (parseMethodDescriptor y.desc).map (fun d => d.parameters.length) = some n) (hR : rm.frames + 1 ≤ R.frames ∧ 8 + (maxL + 11) + rm.locals ≤ R.locals) (hstack : st0 = As.reverse ++ rest) (hls : ls.size = nL) (hW : (rest.map fun v => v.category).sum ≤ 8) (hdg : decode cc pc = .ok (.invokestatic index, 3)) (hf : cells + mc ≤ R.cells ∧ slots + ms ≤ R.slots) :
    va_Run p l e R s m args below meth c H locs cells slots mc ms (F0 m pc ls st0) rest (Qc As.toArray) fF :=
  va_runS (As := As) (rest := rest) ⟨hC.1, hC.2.1, hC.2.2.1, hC.2.2.2.1, hC.2.2.2.2.1⟩ hM (va_cwS n hC.2.2.2.2.1 (gd_app (by intro w hw; simp only [List.mem_cons, List.not_mem_nil, or_false] at hw; rcases hw with rfl | rfl | rfl <;> assumption) (gd_TT h5)) rfl hrc hrs hdd hR) ⟨zPc.blind, fun U hU hW => zPc.of hC hd _ U hU hW⟩ rfl hn hls hstack (lv_room hW) hdg hf
theorem zbackF (hd : Dy G ad ow Z s H locs) (hr : va_Run p l e R s m args below meth c H locs cells slots 0 0 (F0 m pc ls st0) rest (Qd G ad' ow' Z' v a9) fF)
    (kk : ∀ (H1 : Heap), Dy G ad' ow' Z' s H1 locs → W p l e R s m args below meth c H1 locs cells slots Q (F0 m (pc + 3) ls (v.toList ++ rest))) : W p l e R s m args below meth c H locs cells slots Q (F0 m pc ls st0) := by
  intro T hT X
  obtain ⟨v', st₀, t, T', L, h0, X', hL, e1, e2, ⟨hv, hp, hz, hk⟩, st⟩ := hr T hT X
  cases hv
  rw [h0] at hz hk
  cases L with
  | cons q L => exact (hL q List.mem_cons_self).elim
  | nil =>
    rw [List.append_nil] at X'
    obtain ⟨t2, a1, b1⟩ := kk T'.heap ⟨by rw [e1]; exact hp, ⟨Nat.le_trans hd.2.1.1 (by rw [e1]; exact hz), fun q h1 h2 => by rw [e1, hk q (Nat.lt_of_lt_of_le h1 hd.2.1.1) h2]; exact hd.2.1.2.1 q h1 h2, hd.2.1.2.2⟩, hd.2.2⟩ T' rfl X'
    exact ⟨t2, st t2 a1, b1⟩
theorem zbF_i {r : Int32} (hd : Dy G ad ow Z s H locs) (hr : va_Run p l e R s m args below meth c H locs cells slots 0 0 (F0 m pc ls st0) rest (Qd G ad' ow' Z' (some (.int r)) a9) fF)
    (kk : ∀ (H1 : Heap), Dy G ad' ow' Z' s H1 locs → W p l e R s m args below meth c H1 locs cells slots Q (F0 m (pc + 3) ls (.int r :: rest))) : W p l e R s m args below meth c H locs cells slots Q (F0 m pc ls st0) :=
  zbackF hd hr kk
theorem zbF_l {r : Int64} (hd : Dy G ad ow Z s H locs) (hr : va_Run p l e R s m args below meth c H locs cells slots 0 0 (F0 m pc ls st0) rest (Qd G ad' ow' Z' (some (.long r)) a9) fF)
    (kk : ∀ (H1 : Heap), Dy G ad' ow' Z' s H1 locs → W p l e R s m args below meth c H1 locs cells slots Q (F0 m (pc + 3) ls (.long r :: rest))) : W p l e R s m args below meth c H locs cells slots Q (F0 m pc ls st0) :=
  zbackF hd hr kk
theorem zbF_a {r : Nat} (hd : Dy G ad ow Z s H locs) (hr : va_Run p l e R s m args below meth c H locs cells slots 0 0 (F0 m pc ls st0) rest (Qd G ad' ow' Z' (some (.ref r)) a9) fF)
    (kk : ∀ (H1 : Heap), Dy G ad' ow' Z' s H1 locs → W p l e R s m args below meth c H1 locs cells slots Q (F0 m (pc + 3) ls (.ref r :: rest))) : W p l e R s m args below meth c H locs cells slots Q (F0 m pc ls st0) :=
  zbackF hd hr kk
theorem zbF_v  (hd : Dy G ad ow Z s H locs) (hr : va_Run p l e R s m args below meth c H locs cells slots 0 0 (F0 m pc ls st0) rest (Qd G ad' ow' Z' (none) a9) fF)
    (kk : ∀ (H1 : Heap), Dy G ad' ow' Z' s H1 locs → W p l e R s m args below meth c H1 locs cells slots Q (F0 m (pc + 3) ls (rest))) : W p l e R s m args below meth c H locs cells slots Q (F0 m pc ls st0) :=
  zbackF hd hr kk
theorem zfiF {x r : Int32} (hC : Cx G p c m s args own cc nL) (hd : Dy G ad ow Z s H []) (hr : meth.sig.returnType = some .int) (hlk : meth.locks = false) (hdg : decode cc pc = .ok (.ireturn, 1)) (hx : x = r) (hz : Z = Z') : W p l e R s m args below meth c H [] cells slots (MQ below (Qd G ad ow Z' (some (.int r))) args s cells slots fF) (F0 m pc ls [.int x]) := by
  subst hx; subst hz
  exact W.iret hC.1 hC.2.1 hr (fun t ht _ => ⟨rfl, by rw [ht]; exact hd.1, hd.2.1.F ht⟩) (fun q hq => by cases hq) hdg hlk
theorem zfzF {x r : Int32} (hC : Cx G p c m s args own cc nL) (hd : Dy G ad ow Z s H []) (hr : meth.sig.returnType = some .boolean) (hlk : meth.locks = false) (hdg : decode cc pc = .ok (.ireturn, 1)) (hn : x = 0 ∨ x = 1) (hx : x = r) (hz : Z = Z') : W p l e R s m args below meth c H [] cells slots (MQ below (Qd G ad ow Z' (some (.int r))) args s cells slots fF) (F0 m pc ls [.int x]) := by
  subst hx; subst hz
  exact W.zret hC.1 hC.2.1 hr (by rcases hn with rfl | rfl <;> decide) (fun t ht _ => ⟨rfl, by rw [ht]; exact hd.1, hd.2.1.F ht⟩) (fun q hq => by cases hq) hdg hlk
theorem zflF {x r : Int64} (hC : Cx G p c m s args own cc nL) (hd : Dy G ad ow Z s H []) (hr : meth.sig.returnType = some .long) (hlk : meth.locks = false) (hdg : decode cc pc = .ok (.lreturn, 1)) (hx : x = r) (hz : Z = Z') : W p l e R s m args below meth c H [] cells slots (MQ below (Qd G ad ow Z' (some (.long r))) args s cells slots fF) (F0 m pc ls [.long x]) := by
  subst hx; subst hz
  exact W.lret hC.1 hC.2.1 hr (fun t ht _ => ⟨rfl, by rw [ht]; exact hd.1, hd.2.1.F ht⟩) (fun q hq => by cases hq) hdg hlk
theorem zfaF {x r : Nat} {rt : FieldType} (hC : Cx G p c m s args own cc nL) (hd : Dy G ad ow Z s H []) (hr : meth.sig.returnType = some rt) (hrt : (∃ n, rt = .object n) ∨ ∃ t, rt = .array t) (hlk : meth.locks = false) (hdg : decode cc pc = .ok (.areturn, 1)) (hx : x = r) (hz : Z = Z') : W p l e R s m args below meth c H [] cells slots (MQ below (Qd G ad ow Z' (some (.ref r))) args s cells slots fF) (F0 m pc ls [.ref x]) := by
  subst hx; subst hz
  exact W.aret hC.1 hC.2.1 hr hrt (Or.inr ⟨_, rfl⟩) (fun t ht _ => ⟨rfl, by rw [ht]; exact hd.1, hd.2.1.F ht⟩) (fun q hq => by cases hq) hdg hlk
end
