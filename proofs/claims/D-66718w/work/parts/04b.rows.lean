section
variable {p : Program} {l : Launch} {e : Env} {R : Room} {s : State} {m : MethodId} {args : Array Value} {below : List Frame} {meth : Method} {c : Code} {H : Heap} {locs : List Loc} {cells slots : Nat} {Q : State → Prop} {cc : ByteArray} {pc nL : Nat} {ls : Array Slot} {rest : List Value} {G : Gt} {ad : Nat → Nat → Nat} {ow : Nat → Nat × Nat} {Z Z' : Zt} {own : String}
theorem zclamp {k n : Nat} (hk : k < n) (hn : n ≤ 2147483647) : (nI k).toNatClampNeg = k := nI_clamp (by omega)
theorem zin {k n : Nat} (hk : k < n) (hn : n ≤ 2147483647) : vp_in (nI k) n := vp_in_nI hk (by omega)
theorem ziaI (hC : Cx G p c m s args own cc nL) (hd : Dy G ad ow Z s H locs) {o i n k : Nat} {f : Nat → Int32} (he : ent G ad Z o i = some (inA (gI G) n f)) (hk : k < n) (hn : n ≤ 2147483647) (hdg : decode cc pc = .ok (.iaload, 1))
    (kk : W p l e R s m args below meth c H locs cells slots Q (F0 m (pc + 1) ls (.int (f k) :: rest))) : W p l e R s m args below meth c H locs cells slots Q (F0 m pc ls (.int (nI k) :: .ref (ad o i) :: rest)) :=
  ziald hC hd he (zin hk hn) hdg (by rw [zclamp hk hn]; exact kk)
theorem ziaN (hC : Cx G p c m s args own cc nL) (hd : Dy G ad ow Z s H locs) {o i n k : Nat} {f : Nat → Nat} (he : ent G ad Z o i = some (inA (gI G) n (fun j => nI (f j)))) (hk : k < n) (hn : n ≤ 2147483647) (hdg : decode cc pc = .ok (.iaload, 1))
    (kk : W p l e R s m args below meth c H locs cells slots Q (F0 m (pc + 1) ls (.int (nI (f k)) :: rest))) : W p l e R s m args below meth c H locs cells slots Q (F0 m pc ls (.int (nI k) :: .ref (ad o i) :: rest)) :=
  ziald hC hd he (zin hk hn) hdg (by rw [zclamp hk hn]; exact kk)
theorem zlaI (hC : Cx G p c m s args own cc nL) (hd : Dy G ad ow Z s H locs) {o i n k : Nat} {f : Nat → Int64} (he : ent G ad Z o i = some (lnA (gL G) n f)) (hk : k < n) (hn : n ≤ 2147483647) (hdg : decode cc pc = .ok (.laload, 1))
    (kk : W p l e R s m args below meth c H locs cells slots Q (F0 m (pc + 1) ls (.long (f k) :: rest))) : W p l e R s m args below meth c H locs cells slots Q (F0 m pc ls (.int (nI k) :: .ref (ad o i) :: rest)) :=
  zlald hC hd he (zin hk hn) hdg (by rw [zclamp hk hn]; exact kk)
theorem zzaI (hC : Cx G p c m s args own cc nL) (hd : Dy G ad ow Z s H locs) {o i n k : Nat} {f : Nat → Int32} (he : ent G ad Z o i = some (inA (gZ G) n f)) (hk : k < n) (hn : n ≤ 2147483647) (hdg : decode cc pc = .ok (.baload, 1))
    (kk : W p l e R s m args below meth c H locs cells slots Q (F0 m (pc + 1) ls (.int (f k) :: rest))) : W p l e R s m args below meth c H locs cells slots Q (F0 m pc ls (.int (nI k) :: .ref (ad o i) :: rest)) :=
  zzald hC hd he (zin hk hn) hdg (by rw [zclamp hk hn]; exact kk)
theorem ziaS (hC : Cx G p c m s args own cc nL) (hd : Dy G ad ow Z s H locs) {o i n k : Nat} {f : Nat → Int32} {y : Int32} (he : ent G ad Z o i = some (inA (gI G) n f)) (hk : k < n) (hn : n ≤ 2147483647) (hU : Up G ad Z Z' o i (inA (gI G) n (upd f k y))) (hdg : decode cc pc = .ok (.iastore, 1))
    (kk : ∀ (H1 : Heap) (locs1 : List Loc), Dy G ad ow Z' s H1 locs1 → W p l e R s m args below meth c H1 locs1 cells slots Q (F0 m (pc + 1) ls rest)) : W p l e R s m args below meth c H locs cells slots Q (F0 m pc ls (.int y :: .int (nI k) :: .ref (ad o i) :: rest)) :=
  ziast hC hd he (zin hk hn) (by rw [zclamp hk hn]; exact hU) hdg kk
theorem zlaS (hC : Cx G p c m s args own cc nL) (hd : Dy G ad ow Z s H locs) {o i n k : Nat} {f : Nat → Int64} {y : Int64} (he : ent G ad Z o i = some (lnA (gL G) n f)) (hk : k < n) (hn : n ≤ 2147483647) (hU : Up G ad Z Z' o i (lnA (gL G) n (vp_updL f k y))) (hdg : decode cc pc = .ok (.lastore, 1))
    (kk : ∀ (H1 : Heap) (locs1 : List Loc), Dy G ad ow Z' s H1 locs1 → W p l e R s m args below meth c H1 locs1 cells slots Q (F0 m (pc + 1) ls rest)) : W p l e R s m args below meth c H locs cells slots Q (F0 m pc ls (.long y :: .int (nI k) :: .ref (ad o i) :: rest)) :=
  zlast hC hd he (zin hk hn) (by rw [zclamp hk hn]; exact hU) hdg kk
theorem zzaS (hC : Cx G p c m s args own cc nL) (hd : Dy G ad ow Z s H locs) {o i n k : Nat} {f : Nat → Int32} {y : Int32} (hy : y = 0 ∨ y = 1) (he : ent G ad Z o i = some (inA (gZ G) n f)) (hk : k < n) (hn : n ≤ 2147483647) (hU : Up G ad Z Z' o i (inA (gZ G) n (upd f k y))) (hdg : decode cc pc = .ok (.bastore, 1))
    (kk : ∀ (H1 : Heap) (locs1 : List Loc), Dy G ad ow Z' s H1 locs1 → W p l e R s m args below meth c H1 locs1 cells slots Q (F0 m (pc + 1) ls rest)) : W p l e R s m args below meth c H locs cells slots Q (F0 m pc ls (.int y :: .int (nI k) :: .ref (ad o i) :: rest)) :=
  zzast hC hd he (zin hk hn) (by rw [zclamp hk hn, show vp_nar .boolean y = y by rcases hy with rfl | rfl <;> decide]; exact hU) hdg kk
theorem zaddN {x y : Nat} (hexec : p.tables.exec = Jvm.exec) (hb : c.code = cc) (hdg : decode cc pc = .ok (.iadd, 1)) (k : W p l e R s m args below meth c H locs cells slots Q (F0 m (pc + 1) ls (.int (nI (x + y)) :: rest))) : W p l e R s m args below meth c H locs cells slots Q (F0 m pc ls (.int (nI y) :: .int (nI x) :: rest)) :=
  lv_iadd hexec hb hdg (by rw [nI_add]; exact k)
theorem zsubN {x y : Nat} (h : y ≤ x) (hexec : p.tables.exec = Jvm.exec) (hb : c.code = cc) (hdg : decode cc pc = .ok (.isub, 1)) (k : W p l e R s m args below meth c H locs cells slots Q (F0 m (pc + 1) ls (.int (nI (x - y)) :: rest))) : W p l e R s m args below meth c H locs cells slots Q (F0 m pc ls (.int (nI y) :: .int (nI x) :: rest)) :=
  lv_isub hexec hb hdg (by rw [pk_sub h]; exact k)
theorem zmulN {x y : Nat} (hexec : p.tables.exec = Jvm.exec) (hb : c.code = cc) (hdg : decode cc pc = .ok (.imul, 1)) (k : W p l e R s m args below meth c H locs cells slots Q (F0 m (pc + 1) ls (.int (nI (x * y)) :: rest))) : W p l e R s m args below meth c H locs cells slots Q (F0 m pc ls (.int (nI y) :: .int (nI x) :: rest)) :=
  lv_imul hexec hb hdg (by rw [pk_mul]; exact k)
theorem by_contra9 {a : Prop} (h : ¬ ¬ a) : a := Classical.byContradiction h
theorem zc_eq {x y : Nat} {off : Int} {tgt : Nat} (hx : x ≤ 2147483647) (hy : y ≤ 2147483647) (hexec : p.tables.exec = Jvm.exec) (hb : c.code = cc) (hdg : decode cc pc = .ok (.if_icmp .eq off, 3)) (ht : (pc : Int) + off = (tgt : Int))
    (kt : x = y → W p l e R s m args below meth c H locs cells slots Q (F0 m tgt ls rest)) (kf : ¬ x = y → W p l e R s m args below meth c H locs cells slots Q (F0 m (pc + 3) ls rest)) : W p l e R s m args below meth c H locs cells slots Q (F0 m pc ls (.int (nI y) :: .int (nI x) :: rest)) :=
  lv_icmp_eq hexec hb hdg ht (fun h => kt ((nI_eq (by omega) (by omega)).mp h)) (fun h => kf (fun q => h (by rw [q])))
theorem zc_ne {x y : Nat} {off : Int} {tgt : Nat} (hx : x ≤ 2147483647) (hy : y ≤ 2147483647) (hexec : p.tables.exec = Jvm.exec) (hb : c.code = cc) (hdg : decode cc pc = .ok (.if_icmp .ne off, 3)) (ht : (pc : Int) + off = (tgt : Int))
    (kt : ¬ x = y → W p l e R s m args below meth c H locs cells slots Q (F0 m tgt ls rest)) (kf : x = y → W p l e R s m args below meth c H locs cells slots Q (F0 m (pc + 3) ls rest)) : W p l e R s m args below meth c H locs cells slots Q (F0 m pc ls (.int (nI y) :: .int (nI x) :: rest)) :=
  lv_icmp_ne hexec hb hdg ht (fun h => kt (fun q => h (by rw [q]))) (fun h => kf ((nI_eq (by omega) (by omega)).mp h))
theorem zc_lt {x y : Nat} {off : Int} {tgt : Nat} (hx : x ≤ 2147483647) (hy : y ≤ 2147483647) (hexec : p.tables.exec = Jvm.exec) (hb : c.code = cc) (hdg : decode cc pc = .ok (.if_icmp .lt off, 3)) (ht : (pc : Int) + off = (tgt : Int))
    (kt : x < y → W p l e R s m args below meth c H locs cells slots Q (F0 m tgt ls rest)) (kf : y ≤ x → W p l e R s m args below meth c H locs cells slots Q (F0 m (pc + 3) ls rest)) : W p l e R s m args below meth c H locs cells slots Q (F0 m pc ls (.int (nI y) :: .int (nI x) :: rest)) :=
  lv_icmp_lt hexec hb hdg ht (fun h => kt ((nI_ltI (by omega) (by omega)).mp h)) (fun h => kf (Nat.not_lt.mp fun q => h ((nI_ltI (by omega) (by omega)).mpr q)))
theorem zc_ge {x y : Nat} {off : Int} {tgt : Nat} (hx : x ≤ 2147483647) (hy : y ≤ 2147483647) (hexec : p.tables.exec = Jvm.exec) (hb : c.code = cc) (hdg : decode cc pc = .ok (.if_icmp .ge off, 3)) (ht : (pc : Int) + off = (tgt : Int))
    (kt : y ≤ x → W p l e R s m args below meth c H locs cells slots Q (F0 m tgt ls rest)) (kf : x < y → W p l e R s m args below meth c H locs cells slots Q (F0 m (pc + 3) ls rest)) : W p l e R s m args below meth c H locs cells slots Q (F0 m pc ls (.int (nI y) :: .int (nI x) :: rest)) :=
  lv_icmp_ge hexec hb hdg ht (fun h => kt ((nI_leI (by omega) (by omega)).mp h)) (fun h => kf (Nat.not_le.mp fun q => h ((nI_leI (by omega) (by omega)).mpr q)))
theorem zc_gt {x y : Nat} {off : Int} {tgt : Nat} (hx : x ≤ 2147483647) (hy : y ≤ 2147483647) (hexec : p.tables.exec = Jvm.exec) (hb : c.code = cc) (hdg : decode cc pc = .ok (.if_icmp .gt off, 3)) (ht : (pc : Int) + off = (tgt : Int))
    (kt : y < x → W p l e R s m args below meth c H locs cells slots Q (F0 m tgt ls rest)) (kf : x ≤ y → W p l e R s m args below meth c H locs cells slots Q (F0 m (pc + 3) ls rest)) : W p l e R s m args below meth c H locs cells slots Q (F0 m pc ls (.int (nI y) :: .int (nI x) :: rest)) :=
  lv_icmp_gt hexec hb hdg ht (fun h => kt ((nI_ltI (by omega) (by omega)).mp h)) (fun h => kf (Nat.not_lt.mp fun q => h ((nI_ltI (by omega) (by omega)).mpr q)))
theorem zc_le {x y : Nat} {off : Int} {tgt : Nat} (hx : x ≤ 2147483647) (hy : y ≤ 2147483647) (hexec : p.tables.exec = Jvm.exec) (hb : c.code = cc) (hdg : decode cc pc = .ok (.if_icmp .le off, 3)) (ht : (pc : Int) + off = (tgt : Int))
    (kt : x ≤ y → W p l e R s m args below meth c H locs cells slots Q (F0 m tgt ls rest)) (kf : y < x → W p l e R s m args below meth c H locs cells slots Q (F0 m (pc + 3) ls rest)) : W p l e R s m args below meth c H locs cells slots Q (F0 m pc ls (.int (nI y) :: .int (nI x) :: rest)) :=
  lv_icmp_le hexec hb hdg ht (fun h => kt ((nI_leI (by omega) (by omega)).mp h)) (fun h => kf (Nat.not_le.mp fun q => h ((nI_leI (by omega) (by omega)).mpr q)))
theorem zi_z {x : Nat} (h : x = 0) : ¬ 0 < x := fun q => by omega
theorem zi_p {x : Nat} (h : 0 < x) : ¬ x = 0 := fun q => by omega
theorem zc0 : (0 : Int32) = nI 0 := rfl
theorem zi_eq {x : Nat} {off : Int} {tgt : Nat} (hx : x ≤ 2147483647) (hexec : p.tables.exec = Jvm.exec) (hb : c.code = cc) (hdg : decode cc pc = .ok (.ifCond .eq off, 3)) (ht : (pc : Int) + off = (tgt : Int))
    (kt : x = 0 → W p l e R s m args below meth c H locs cells slots Q (F0 m tgt ls rest)) (kf : 0 < x → W p l e R s m args below meth c H locs cells slots Q (F0 m (pc + 3) ls rest)) : W p l e R s m args below meth c H locs cells slots Q (F0 m pc ls (.int (nI x) :: rest)) :=
  lv_if_eq hexec hb hdg ht (fun h => kt ((nI_eq (b := 0) (by omega) (by omega)).mp h)) (fun h => kf (Nat.pos_of_ne_zero fun q => h (by rw [q]; rfl)))
theorem zi_ne {x : Nat} {off : Int} {tgt : Nat} (hx : x ≤ 2147483647) (hexec : p.tables.exec = Jvm.exec) (hb : c.code = cc) (hdg : decode cc pc = .ok (.ifCond .ne off, 3)) (ht : (pc : Int) + off = (tgt : Int))
    (kt : 0 < x → W p l e R s m args below meth c H locs cells slots Q (F0 m tgt ls rest)) (kf : x = 0 → W p l e R s m args below meth c H locs cells slots Q (F0 m (pc + 3) ls rest)) : W p l e R s m args below meth c H locs cells slots Q (F0 m pc ls (.int (nI x) :: rest)) :=
  lv_if_ne hexec hb hdg ht (fun h => kt (Nat.pos_of_ne_zero fun q => h (by rw [q]; rfl))) (fun h => kf ((nI_eq (b := 0) (by omega) (by omega)).mp h))
theorem zi_gt {x : Nat} {off : Int} {tgt : Nat} (hx : x ≤ 2147483647) (hexec : p.tables.exec = Jvm.exec) (hb : c.code = cc) (hdg : decode cc pc = .ok (.ifCond .gt off, 3)) (ht : (pc : Int) + off = (tgt : Int))
    (kt : 0 < x → W p l e R s m args below meth c H locs cells slots Q (F0 m tgt ls rest)) (kf : x = 0 → W p l e R s m args below meth c H locs cells slots Q (F0 m (pc + 3) ls rest)) : W p l e R s m args below meth c H locs cells slots Q (F0 m pc ls (.int (nI x) :: rest)) :=
  lv_if_gt hexec hb hdg ht (fun h => kt ((nI_ltI (a := 0) (by omega) (by omega)).mp h)) (fun h => kf (Nat.eq_zero_of_not_pos fun q => h ((nI_ltI (a := 0) (by omega) (by omega)).mpr q)))
theorem zi_le {x : Nat} {off : Int} {tgt : Nat} (hx : x ≤ 2147483647) (hexec : p.tables.exec = Jvm.exec) (hb : c.code = cc) (hdg : decode cc pc = .ok (.ifCond .le off, 3)) (ht : (pc : Int) + off = (tgt : Int))
    (kt : x = 0 → W p l e R s m args below meth c H locs cells slots Q (F0 m tgt ls rest)) (kf : 0 < x → W p l e R s m args below meth c H locs cells slots Q (F0 m (pc + 3) ls rest)) : W p l e R s m args below meth c H locs cells slots Q (F0 m pc ls (.int (nI x) :: rest)) :=
  lv_if_le hexec hb hdg ht (fun h => kt (Nat.le_zero.mp ((nI_leI (b := 0) (by omega) (by omega)).mp h))) (fun h => kf (Nat.pos_of_ne_zero fun q => h (by rw [q]; exact Int32.le_refl _)))
end
section
variable {p : Program} {l : Launch} {e : Env} {R : Room} {s : State} {m : MethodId} {args : Array Value} {below : List Frame} {meth : Method} {c : Code} {H : Heap} {locs : List Loc} {cells slots : Nat} {Q : State → Prop} {cc : ByteArray} {pc nL : Nat} {ls : Array Slot} {rest : List Value} {G : Gt} {ad : Nat → Nat → Nat} {ow : Nat → Nat × Nat} {Z Z' : Zt} {own : String}
variable {mc ms : Nat} {st0 : List Value} {a9 : Array Value} {ad' : Nat → Nat → Nat} {ow' : Nat → Nat × Nat}
theorem zb_i {r : Int32} (hd : Dy G ad ow Z s H locs) (hr : va_Run p l e R s m args below meth c H locs cells slots 0 0 (F0 m pc ls st0) rest (Qd G ad' ow' Z' (some (.int r)) a9) (zA G))
    (kk : ∀ (H1 : Heap) (locs1 : List Loc), Dy G ad' ow' Z' s H1 locs1 → W p l e R s m args below meth c H1 locs1 cells slots Q (F0 m (pc + 3) ls (.int r :: rest))) : W p l e R s m args below meth c H locs cells slots Q (F0 m pc ls st0) :=
  zback hd hr rfl rfl kk
theorem zb_l {r : Int64} (hd : Dy G ad ow Z s H locs) (hr : va_Run p l e R s m args below meth c H locs cells slots 0 0 (F0 m pc ls st0) rest (Qd G ad' ow' Z' (some (.long r)) a9) (zA G))
    (kk : ∀ (H1 : Heap) (locs1 : List Loc), Dy G ad' ow' Z' s H1 locs1 → W p l e R s m args below meth c H1 locs1 cells slots Q (F0 m (pc + 3) ls (.long r :: rest))) : W p l e R s m args below meth c H locs cells slots Q (F0 m pc ls st0) :=
  zback hd hr rfl rfl kk
theorem zb_a {r : Nat} (hd : Dy G ad ow Z s H locs) (hr : va_Run p l e R s m args below meth c H locs cells slots 0 0 (F0 m pc ls st0) rest (Qd G ad' ow' Z' (some (.ref r)) a9) (zA G))
    (kk : ∀ (H1 : Heap) (locs1 : List Loc), Dy G ad' ow' Z' s H1 locs1 → W p l e R s m args below meth c H1 locs1 cells slots Q (F0 m (pc + 3) ls (.ref r :: rest))) : W p l e R s m args below meth c H locs cells slots Q (F0 m pc ls st0) :=
  zback hd hr rfl rfl kk
theorem zb_v  (hd : Dy G ad ow Z s H locs) (hr : va_Run p l e R s m args below meth c H locs cells slots 0 0 (F0 m pc ls st0) rest (Qd G ad' ow' Z' (none) a9) (zA G))
    (kk : ∀ (H1 : Heap) (locs1 : List Loc), Dy G ad' ow' Z' s H1 locs1 → W p l e R s m args below meth c H1 locs1 cells slots Q (F0 m (pc + 3) ls (rest))) : W p l e R s m args below meth c H locs cells slots Q (F0 m pc ls st0) :=
  zback hd hr rfl rfl kk
end
section
variable {p : Program} {l : Launch} {e : Env} {R : Room} {s : State} {m : MethodId} {args : Array Value} {below : List Frame} {meth : Method} {c : Code} {H : Heap} {locs : List Loc} {cells slots : Nat} {Q : State → Prop} {cc : ByteArray} {pc nL : Nat} {ls : Array Slot} {rest : List Value} {G : Gt} {ad : Nat → Nat → Nat} {ow : Nat → Nat × Nat} {Z Z' : Zt} {own : String}
variable {ad' : Nat → Nat → Nat} {ow' : Nat → Nat × Nat}
theorem zfi {x r : Int32} (hC : Cx G p c m s args own cc nL) (hd : Dy G ad ow Z s H locs) (hr : meth.sig.returnType = some .int) (hlk : meth.locks = false) (hdg : decode cc pc = .ok (.ireturn, 1)) (hx : x = r) (hz : Z = Z') : W p l e R s m args below meth c H locs cells slots (MQ below (Qd G ad ow Z' (some (.int r))) args s cells slots (zA G)) (F0 m pc ls [.int x]) := by
  subst hx; subst hz; exact zret_i hC hd hr hlk hdg
theorem zfz {x r : Int32} (hC : Cx G p c m s args own cc nL) (hd : Dy G ad ow Z s H locs) (hr : meth.sig.returnType = some .boolean) (hlk : meth.locks = false) (hdg : decode cc pc = .ok (.ireturn, 1)) (hn : x = 0 ∨ x = 1) (hx : x = r) (hz : Z = Z') : W p l e R s m args below meth c H locs cells slots (MQ below (Qd G ad ow Z' (some (.int r))) args s cells slots (zA G)) (F0 m pc ls [.int x]) := by
  subst hx; subst hz; exact zret_z hC hd hr hn hlk hdg
theorem zfl {x r : Int64} (hC : Cx G p c m s args own cc nL) (hd : Dy G ad ow Z s H locs) (hr : meth.sig.returnType = some .long) (hlk : meth.locks = false) (hdg : decode cc pc = .ok (.lreturn, 1)) (hx : x = r) (hz : Z = Z') : W p l e R s m args below meth c H locs cells slots (MQ below (Qd G ad ow Z' (some (.long r))) args s cells slots (zA G)) (F0 m pc ls [.long x]) := by
  subst hx; subst hz; exact zret_l hC hd hr hlk hdg
theorem zfv (hC : Cx G p c m s args own cc nL) (hd : Dy G ad ow Z s H locs) (hr : meth.sig.returnType = none) (hlk : meth.locks = false) (hdg : decode cc pc = .ok (.return_, 1)) (hz : Z = Z') : W p l e R s m args below meth c H locs cells slots (MQ below (Qd G ad ow Z' none) args s cells slots (zA G)) (F0 m pc ls []) := by
  subst hz; exact zret_v hC hd hr hlk hdg
theorem zfa {x r : Nat} {rt : FieldType} (hC : Cx G p c m s args own cc nL) (hd : Dy G ad ow Z s H locs) (hr : meth.sig.returnType = some rt) (hrt : (∃ n, rt = .object n) ∨ ∃ t, rt = .array t) (hlk : meth.locks = false) (hdg : decode cc pc = .ok (.areturn, 1)) (hx : x = r) (hz : Z = Z') : W p l e R s m args below meth c H locs cells slots (MQ below (Qd G ad ow Z' (some (.ref r))) args s cells slots (zA G)) (F0 m pc ls [.ref x]) := by
  subst hx; subst hz; exact zret_a hC hd hr hrt hlk hdg
end
