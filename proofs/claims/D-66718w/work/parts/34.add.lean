section
variable {p : Program} {l : Launch} {e : Env} {R : Room} {s : State} {m : MethodId} {args : Array Value} {below : List Frame} {meth : Method} {c : Code} {H : Heap} {locs : List Loc} {cells slots : Nat} {Q : State → Prop} {cc : ByteArray} {pc nL : Nat} {ls : Array Slot} {rest : List Value} {G : Gt} {ad : Nat → Nat → Nat} {ow : Nat → Nat × Nat} {Z Z' : Zt} {own : String}
theorem zsubL {x y r : Int32} (h : x - y = r) (hexec : p.tables.exec = Jvm.exec) (hb : c.code = cc) (hdg : decode cc pc = .ok (.isub, 1)) (k : W p l e R s m args below meth c H locs cells slots Q (F0 m (pc + 1) ls (.int r :: rest))) : W p l e R s m args below meth c H locs cells slots Q (F0 m pc ls (.int y :: .int x :: rest)) := by
  subst h; exact lv_isub hexec hb hdg k
theorem zaddL {x y r : Int32} (h : x + y = r) (hexec : p.tables.exec = Jvm.exec) (hb : c.code = cc) (hdg : decode cc pc = .ok (.iadd, 1)) (k : W p l e R s m args below meth c H locs cells slots Q (F0 m (pc + 1) ls (.int r :: rest))) : W p l e R s m args below meth c H locs cells slots Q (F0 m pc ls (.int y :: .int x :: rest)) := by
  subst h; exact lv_iadd hexec hb hdg k
theorem zshrL {x y r : Int32} (h : x >>> (y &&& 31) = r) (hexec : p.tables.exec = Jvm.exec) (hb : c.code = cc) (hdg : decode cc pc = .ok (.ishr, 1)) (k : W p l e R s m args below meth c H locs cells slots Q (F0 m (pc + 1) ls (.int r :: rest))) : W p l e R s m args below meth c H locs cells slots Q (F0 m pc ls (.int y :: .int x :: rest)) := by
  subst h; exact lv_ishr hexec hb hdg k
end
theorem cpy_elem {f : Nat → Option Nat} {c : Nat} (h : ∀ j, c ≤ j → f j = none) : va_cpy f (fun _ => none) 0 0 c = f := by
  funext k
  unfold va_cpy
  by_cases hk : k < c
  · rw [if_pos ⟨by omega, by omega⟩]; congr 1; omega
  · rw [if_neg (fun q => hk (by omega))]; exact (h k (by omega)).symm
theorem elem_none {ad : Nat → Nat → Nat} {Z : Zt} {i j : Nat} (h : xc Z 4 i j = 0) : elemF ad Z i j = none := if_pos h
def x_capN (c : Nat) : Nat := if c = 0 then 10 else c + c / 2
def x_cap (Z : Zt) (i : Nat) : Nat := if xn Z 2 i = xn Z 3 i then x_capN (xn Z 3 i) else xn Z 3 i
def x_add (Z : Zt) (i k : Nat) : Zt := sn (sc (sn (si Z 16 i (xi Z 16 i + 1)) 3 i (x_cap Z i)) 4 i (xn Z 2 i) (k + 1)) 2 i (xn Z 2 i + 1)
theorem sn_same {Z : Zt} {t i v : Nat} (h : xn Z t i = v) : sn Z t i v = Z := by
  have h2 : (fun a b => if a = t ∧ b = i then v else xn Z a b) = Z.2.2.1 := by
    funext a b
    by_cases hq : a = t ∧ b = i
    · rw [if_pos hq, ← h, hq.1, hq.2]; rfl
    · rw [if_neg hq]; rfl
  exact congrArg (fun q => ((Z.1, Z.2.1, q, Z.2.2.2) : Zt)) h2
theorem sr_back {Z : Zt} {t i v r : Nat} {e : Option va_E} (h : xr Z r = none) : sr (sn (sr Z r e) t i v) r none = sn Z t i v := by
  have h2 : (fun a => if a = r then none else (if a = r then e else xr Z a)) = Z.2.2.2.2 := by
    funext a
    by_cases hq : a = r
    · rw [if_pos hq, hq]; exact h.symm
    · rw [if_neg hq, if_neg hq]; rfl
  exact congrArg (fun q => ((Z.1, Z.2.1, fun a b => if a = t ∧ b = i then v else Z.2.2.1 a b, Z.2.2.2.1, q) : Zt)) h2
theorem upA_same (ad : Nat → Nat → Nat) (o i : Nat) : upA ad o i (ad o i) = ad := by
  funext a b
  unfold upA
  by_cases h : a = o ∧ b = i
  · rw [if_pos h, h.1, h.2]
  · rw [if_neg h]
theorem sr_sr (Z : Zt) (r : Nat) (a b : Option va_E) : sr (sr Z r a) r b = sr Z r b := by
  have h : (fun x => if x = r then b else (if x = r then a else xr Z x)) = fun x => if x = r then b else xr Z x := by
    funext x
    by_cases hq : x = r
    · rw [if_pos hq, if_pos hq]
    · rw [if_neg hq, if_neg hq, if_neg hq]
  exact congrArg (fun q => ((Z.1, Z.2.1, Z.2.2.1, Z.2.2.2.1, q) : Zt)) h
set_option maxHeartbeats 4000000 in
theorem c_newLength_10 (l : Launch) (G : Gt) (ad : Nat → Nat → Nat) (ow : Nat → Nat × Nat) (Z : Zt)  : Met l y_ASup_newLength w_ASup_newLength ({ frames := 1, cells := 0, slots := 0, locals := 21 }) (zPc G ad ow Z [.int 10, .int 1, .int 5]) (Qd G ad ow Z (some (.int 15))) 0 0 (zA G) := by
  refine zopen (cc := b_ASup_newLength) (maxL := 4) (ret := (some FieldType.int)) (by decide) rfl (Nat.le_of_ble_eq_true rfl) ?_
  intro p e s m below meth c ls hC hr hlk hnm hd hl
  have hC : Cx G p c m s _ "jdk/internal/util/ArraysSupport" b_ASup_newLength 4 := hC
  have hl : lv_has ls 4 [(0, .int 10), (1, .int 1), (2, .int 5)] := hl
  have hx := hC.1
  have hb := hC.2.1
  refine lv_iload_n hx hb d_ASup_newLength_0 rfl (lv_at hl 0 rfl) ?_
  refine lv_iload_n hx hb d_ASup_newLength_1 rfl (lv_at hl 1 rfl) ?_
  refine lv_iload_n hx hb d_ASup_newLength_2 rfl (lv_at hl 2 rfl) ?_
  refine zmax (r := 5) hC hl.1 (by decide) q_195 (Nat.le_of_ble_eq_true rfl) (Nat.le_of_ble_eq_true rfl) (Nat.le_of_ble_eq_true rfl) (Nat.le_of_ble_eq_true rfl) d_ASup_newLength_3 ?_
  refine zaddL (r := 15) (by decide) hx hb d_ASup_newLength_6 ?_
  refine lv_istore_n (lv' := [(3, .int 15), (0, .int 10), (1, .int 1), (2, .int 5)]) hx hb d_ASup_newLength_7 rfl hl (by decide) rfl (fun ls hl => ?_)
  refine lv_iconst (v := 0) hx hb d_ASup_newLength_8 (by decide) ?_
  refine lv_iload_n hx hb d_ASup_newLength_9 rfl (lv_at hl 0 rfl) ?_
  refine lv_icmp_ge (tgt := 21) hx hb d_ASup_newLength_10 (by decide) (fun c => absurd c (by decide)) (fun _ => ?_)
  refine lv_iload_n hx hb d_ASup_newLength_13 rfl (lv_at hl 0 rfl) ?_
  refine lv_ldc (v := 2147483639) hx hb hC.2.2.2.1 (hC.2.2.2.2.1 _ q_198) d_ASup_newLength_14 ?_
  refine lv_icmp_gt (tgt := 21) hx hb d_ASup_newLength_16 (by decide) (fun c => absurd c (by decide)) (fun _ => ?_)
  refine lv_iload_n hx hb d_ASup_newLength_19 rfl (lv_at hl 0 rfl) ?_
  exact zfi hC hd hr hlk d_ASup_newLength_20 rfl rfl
set_option maxHeartbeats 4000000 in
theorem c_newLength_15 (l : Launch) (G : Gt) (ad : Nat → Nat → Nat) (ow : Nat → Nat × Nat) (Z : Zt)  : Met l y_ASup_newLength w_ASup_newLength ({ frames := 1, cells := 0, slots := 0, locals := 21 }) (zPc G ad ow Z [.int 15, .int 1, .int 7]) (Qd G ad ow Z (some (.int 22))) 0 0 (zA G) := by
  refine zopen (cc := b_ASup_newLength) (maxL := 4) (ret := (some FieldType.int)) (by decide) rfl (Nat.le_of_ble_eq_true rfl) ?_
  intro p e s m below meth c ls hC hr hlk hnm hd hl
  have hC : Cx G p c m s _ "jdk/internal/util/ArraysSupport" b_ASup_newLength 4 := hC
  have hl : lv_has ls 4 [(0, .int 15), (1, .int 1), (2, .int 7)] := hl
  have hx := hC.1
  have hb := hC.2.1
  refine lv_iload_n hx hb d_ASup_newLength_0 rfl (lv_at hl 0 rfl) ?_
  refine lv_iload_n hx hb d_ASup_newLength_1 rfl (lv_at hl 1 rfl) ?_
  refine lv_iload_n hx hb d_ASup_newLength_2 rfl (lv_at hl 2 rfl) ?_
  refine zmax (r := 7) hC hl.1 (by decide) q_195 (Nat.le_of_ble_eq_true rfl) (Nat.le_of_ble_eq_true rfl) (Nat.le_of_ble_eq_true rfl) (Nat.le_of_ble_eq_true rfl) d_ASup_newLength_3 ?_
  refine zaddL (r := 22) (by decide) hx hb d_ASup_newLength_6 ?_
  refine lv_istore_n (lv' := [(3, .int 22), (0, .int 15), (1, .int 1), (2, .int 7)]) hx hb d_ASup_newLength_7 rfl hl (by decide) rfl (fun ls hl => ?_)
  refine lv_iconst (v := 0) hx hb d_ASup_newLength_8 (by decide) ?_
  refine lv_iload_n hx hb d_ASup_newLength_9 rfl (lv_at hl 0 rfl) ?_
  refine lv_icmp_ge (tgt := 21) hx hb d_ASup_newLength_10 (by decide) (fun c => absurd c (by decide)) (fun _ => ?_)
  refine lv_iload_n hx hb d_ASup_newLength_13 rfl (lv_at hl 0 rfl) ?_
  refine lv_ldc (v := 2147483639) hx hb hC.2.2.2.1 (hC.2.2.2.2.1 _ q_198) d_ASup_newLength_14 ?_
  refine lv_icmp_gt (tgt := 21) hx hb d_ASup_newLength_16 (by decide) (fun c => absurd c (by decide)) (fun _ => ?_)
  refine lv_iload_n hx hb d_ASup_newLength_19 rfl (lv_at hl 0 rfl) ?_
  exact zfi hC hd hr hlk d_ASup_newLength_20 rfl rfl
set_option maxHeartbeats 4000000 in
theorem c_newLength_22 (l : Launch) (G : Gt) (ad : Nat → Nat → Nat) (ow : Nat → Nat × Nat) (Z : Zt)  : Met l y_ASup_newLength w_ASup_newLength ({ frames := 1, cells := 0, slots := 0, locals := 21 }) (zPc G ad ow Z [.int 22, .int 1, .int 11]) (Qd G ad ow Z (some (.int 33))) 0 0 (zA G) := by
  refine zopen (cc := b_ASup_newLength) (maxL := 4) (ret := (some FieldType.int)) (by decide) rfl (Nat.le_of_ble_eq_true rfl) ?_
  intro p e s m below meth c ls hC hr hlk hnm hd hl
  have hC : Cx G p c m s _ "jdk/internal/util/ArraysSupport" b_ASup_newLength 4 := hC
  have hl : lv_has ls 4 [(0, .int 22), (1, .int 1), (2, .int 11)] := hl
  have hx := hC.1
  have hb := hC.2.1
  refine lv_iload_n hx hb d_ASup_newLength_0 rfl (lv_at hl 0 rfl) ?_
  refine lv_iload_n hx hb d_ASup_newLength_1 rfl (lv_at hl 1 rfl) ?_
  refine lv_iload_n hx hb d_ASup_newLength_2 rfl (lv_at hl 2 rfl) ?_
  refine zmax (r := 11) hC hl.1 (by decide) q_195 (Nat.le_of_ble_eq_true rfl) (Nat.le_of_ble_eq_true rfl) (Nat.le_of_ble_eq_true rfl) (Nat.le_of_ble_eq_true rfl) d_ASup_newLength_3 ?_
  refine zaddL (r := 33) (by decide) hx hb d_ASup_newLength_6 ?_
  refine lv_istore_n (lv' := [(3, .int 33), (0, .int 22), (1, .int 1), (2, .int 11)]) hx hb d_ASup_newLength_7 rfl hl (by decide) rfl (fun ls hl => ?_)
  refine lv_iconst (v := 0) hx hb d_ASup_newLength_8 (by decide) ?_
  refine lv_iload_n hx hb d_ASup_newLength_9 rfl (lv_at hl 0 rfl) ?_
  refine lv_icmp_ge (tgt := 21) hx hb d_ASup_newLength_10 (by decide) (fun c => absurd c (by decide)) (fun _ => ?_)
  refine lv_iload_n hx hb d_ASup_newLength_13 rfl (lv_at hl 0 rfl) ?_
  refine lv_ldc (v := 2147483639) hx hb hC.2.2.2.1 (hC.2.2.2.2.1 _ q_198) d_ASup_newLength_14 ?_
  refine lv_icmp_gt (tgt := 21) hx hb d_ASup_newLength_16 (by decide) (fun c => absurd c (by decide)) (fun _ => ?_)
  refine lv_iload_n hx hb d_ASup_newLength_19 rfl (lv_at hl 0 rfl) ?_
  exact zfi hC hd hr hlk d_ASup_newLength_20 rfl rfl
set_option maxHeartbeats 4000000 in
theorem c_newLength_33 (l : Launch) (G : Gt) (ad : Nat → Nat → Nat) (ow : Nat → Nat × Nat) (Z : Zt)  : Met l y_ASup_newLength w_ASup_newLength ({ frames := 1, cells := 0, slots := 0, locals := 21 }) (zPc G ad ow Z [.int 33, .int 1, .int 16]) (Qd G ad ow Z (some (.int 49))) 0 0 (zA G) := by
  refine zopen (cc := b_ASup_newLength) (maxL := 4) (ret := (some FieldType.int)) (by decide) rfl (Nat.le_of_ble_eq_true rfl) ?_
  intro p e s m below meth c ls hC hr hlk hnm hd hl
  have hC : Cx G p c m s _ "jdk/internal/util/ArraysSupport" b_ASup_newLength 4 := hC
  have hl : lv_has ls 4 [(0, .int 33), (1, .int 1), (2, .int 16)] := hl
  have hx := hC.1
  have hb := hC.2.1
  refine lv_iload_n hx hb d_ASup_newLength_0 rfl (lv_at hl 0 rfl) ?_
  refine lv_iload_n hx hb d_ASup_newLength_1 rfl (lv_at hl 1 rfl) ?_
  refine lv_iload_n hx hb d_ASup_newLength_2 rfl (lv_at hl 2 rfl) ?_
  refine zmax (r := 16) hC hl.1 (by decide) q_195 (Nat.le_of_ble_eq_true rfl) (Nat.le_of_ble_eq_true rfl) (Nat.le_of_ble_eq_true rfl) (Nat.le_of_ble_eq_true rfl) d_ASup_newLength_3 ?_
  refine zaddL (r := 49) (by decide) hx hb d_ASup_newLength_6 ?_
  refine lv_istore_n (lv' := [(3, .int 49), (0, .int 33), (1, .int 1), (2, .int 16)]) hx hb d_ASup_newLength_7 rfl hl (by decide) rfl (fun ls hl => ?_)
  refine lv_iconst (v := 0) hx hb d_ASup_newLength_8 (by decide) ?_
  refine lv_iload_n hx hb d_ASup_newLength_9 rfl (lv_at hl 0 rfl) ?_
  refine lv_icmp_ge (tgt := 21) hx hb d_ASup_newLength_10 (by decide) (fun c => absurd c (by decide)) (fun _ => ?_)
  refine lv_iload_n hx hb d_ASup_newLength_13 rfl (lv_at hl 0 rfl) ?_
  refine lv_ldc (v := 2147483639) hx hb hC.2.2.2.1 (hC.2.2.2.2.1 _ q_198) d_ASup_newLength_14 ?_
  refine lv_icmp_gt (tgt := 21) hx hb d_ASup_newLength_16 (by decide) (fun c => absurd c (by decide)) (fun _ => ?_)
  refine lv_iload_n hx hb d_ASup_newLength_19 rfl (lv_at hl 0 rfl) ?_
  exact zfi hC hd hr hlk d_ASup_newLength_20 rfl rfl
set_option maxHeartbeats 4000000 in
theorem c_copyOf3_10 (l : Launch) (G : Gt) (ad : Nat → Nat → Nat) (ow : Nat → Nat × Nat) (Z : Zt) (i : Nat) (hi4 : i < xn Z 0 4) (h13 : 50 ≤ xn Z 0 13) (hcap : xn Z 3 i = 10) (hLI : ∀ j, 10 ≤ j → xc Z 4 i j = 0) (hel : ∀ j, j < 10 → 1 ≤ xc Z 4 i j ∧ xc Z 4 i j ≤ xn Z 0 1) : Met l y_Arrs_copyOf3 w_Arrs_copyOf3 ({ frames := 1, cells := 1, slots := 15, locals := 60 }) (zPc G ad ow Z [.ref (ad 4 i), .int 15, .ref (gm G)]) (Qg G (fun ad9 _ Z9 v9 => ∃ a, upA ad 13 5 a = ad9 ∧ sr Z 5 (some (rfA (gO G) 15 (elemF ad Z i))) = Z9 ∧ some (.ref a) = v9)) 1 15 (zA G) := by
  refine zopen (cc := b_Arrs_copyOf3) (maxL := 4) (ret := (some (FieldType.array (FieldType.object "java/lang/Object")))) (by decide) rfl (Nat.le_of_ble_eq_true rfl) ?_
  intro p e s m below meth c ls hC hr hlk hnm hd hl
  have hC : Cx G p c m s _ "java/util/Arrays" b_Arrs_copyOf3 4 := hC
  have hl : lv_has ls 4 [(0, .ref (ad 4 i)), (1, .int 15), (2, .ref (gm G))] := hl
  have hx := hC.1
  have hb := hC.2.1
  refine lv_aload_n hx hb d_Arrs_copyOf3_0 rfl (lv_at hl 2 rfl) ?_
  refine zldcM hC q_224 d_Arrs_copyOf3_1 ?_
  refine lv_acmp_ne (rx := some (gm G)) (ry := some (gm G)) (tgt := 13) hx hb d_Arrs_copyOf3_3 (by decide) (fun h => absurd rfl h) (fun _ => ?_)
  refine lv_iload_n hx hb d_Arrs_copyOf3_6 rfl (lv_at hl 1 rfl) ?_
  refine znewO (rest := []) hC hd 15 q_226 (by decide) (by decide) (Nat.le_of_ble_eq_true rfl) 5 (show 5 < xn Z 0 13 by omega) (Nat.le_of_ble_eq_true rfl) (Nat.le_of_ble_eq_true rfl) d_Arrs_copyOf3_7 (fun a ow H hd => ?_)
  refine lv_goto (tgt := 24) hx hb d_Arrs_copyOf3_10 (by decide) ?_
  refine lv_astore_n (lv' := [(3, .ref a), (0, .ref (ad 4 i)), (1, .int 15), (2, .ref (gm G))]) hx hb d_Arrs_copyOf3_24 rfl hl (by decide) rfl (fun ls hl => ?_)
  refine lv_aload_n hx hb d_Arrs_copyOf3_25 rfl (lv_at hl 1 rfl) ?_
  refine lv_iconst (v := 0) hx hb d_Arrs_copyOf3_26 (by decide) ?_
  refine lv_aload_n hx hb d_Arrs_copyOf3_27 rfl (lv_at hl 0 rfl) ?_
  refine lv_iconst (v := 0) hx hb d_Arrs_copyOf3_28 (by decide) ?_
  refine lv_aload_n hx hb d_Arrs_copyOf3_29 rfl (lv_at hl 1 rfl) ?_
  have he4 : ent G (upA ad 13 5 a) (sr Z 5 (some (rfA (gO G) 15 (fun _ => none)))) 4 i = some (rfA (gO G) 10 (elemF ad Z i)) := by have h9 := e_elem (G := G) (ad := upA ad 13 5 a) (Z := sr Z 5 (some (rfA (gO G) 15 (fun _ => none)))) (show i < xn Z 0 4 from hi4) (show xn Z 3 i ≠ 0 by omega); rw [show xn (sr Z 5 (some (rfA (gO G) 15 (fun _ => none)))) 3 i = 10 from hcap] at h9; exact h9
  refine zalen (ad := upA ad 13 5 a) (o := 4) (i := i) (rest := [.int 0, .ref a, .int 0, .ref (ad 4 i)]) hC hd he4 3 rfl (v := 10) rfl d_Arrs_copyOf3_30 ?_
  refine lv_iload_n hx hb d_Arrs_copyOf3_31 rfl (lv_at hl 2 rfl) ?_
  refine zmin (r := 10) hC hl.1 (by decide) q_227 (Nat.le_of_ble_eq_true rfl) (Nat.le_of_ble_eq_true rfl) (Nat.le_of_ble_eq_true rfl) (Nat.le_of_ble_eq_true rfl) d_Arrs_copyOf3_32 ?_
  have hcp : va_cpy (elemF ad Z i) (fun _ => none) (0 : Int32).toNatClampNeg (0 : Int32).toNatClampNeg (10 : Int32).toNatClampNeg = elemF ad Z i := cpy_elem (c := 10) (fun j hj => elem_none (hLI j hj))
  refine zcopy (Z' := sr (sr Z 5 (some (rfA (gO G) 15 (fun _ => none)))) 5 (some (rfA (gO G) 15 (elemF ad Z i)))) (ad := upA ad 13 5 a) (o := 4) (i := i) (o1 := 13) (i1 := 5) (f := elemF ad Z i) (g := fun _ => none) (sp := 0) (dp := 0) (n := 10) (rest := []) hC hd hl.1 he4 (e_raw (show 5 < xn Z 0 13 by omega) rfl) (by decide) (by decide) (by decide) (Nat.le_of_ble_eq_true rfl) (Nat.le_of_ble_eq_true rfl) (fun j hj y hy => ?_) (by rw [hcp]; exact u_raw (show 5 < xn Z 0 13 by omega)) q_230 q_232 q_231 q_11 (Nat.le_of_ble_eq_true rfl) (Nat.le_of_ble_eq_true rfl) d_Arrs_copyOf3_35 (fun H locs hd => ?_)
  · have hj2 : j < 10 := hj
    have h9 := hel j hj2
    rw [show (0 : Int32).toNatClampNeg + j = j from Nat.zero_add j] at hy
    rw [show elemF ad Z i j = some (ad 1 (xc Z 4 i j - 1)) from if_neg (by omega)] at hy
    cases hy
    exact ⟨xc Z 4 i j - 1, _, rfl, e_key (show xc Z 4 i j - 1 < xn Z 0 1 by omega)⟩
  · have hd := Dy.eq hd (sr_sr Z 5 _ _)
    refine lv_aload_n hx hb d_Arrs_copyOf3_38 rfl (lv_at hl 0 rfl) ?_
    exact zga hC hd hr (Or.inr ⟨_, rfl⟩) hlk d_Arrs_copyOf3_39 ⟨a, rfl, rfl, rfl⟩ (Nat.le_of_ble_eq_true rfl) (Nat.le_of_ble_eq_true rfl)
set_option maxHeartbeats 4000000 in
theorem c_copyOf3_15 (l : Launch) (G : Gt) (ad : Nat → Nat → Nat) (ow : Nat → Nat × Nat) (Z : Zt) (i : Nat) (hi4 : i < xn Z 0 4) (h13 : 50 ≤ xn Z 0 13) (hcap : xn Z 3 i = 15) (hLI : ∀ j, 15 ≤ j → xc Z 4 i j = 0) (hel : ∀ j, j < 15 → 1 ≤ xc Z 4 i j ∧ xc Z 4 i j ≤ xn Z 0 1) : Met l y_Arrs_copyOf3 w_Arrs_copyOf3 ({ frames := 1, cells := 1, slots := 22, locals := 60 }) (zPc G ad ow Z [.ref (ad 4 i), .int 22, .ref (gm G)]) (Qg G (fun ad9 _ Z9 v9 => ∃ a, upA ad 13 5 a = ad9 ∧ sr Z 5 (some (rfA (gO G) 22 (elemF ad Z i))) = Z9 ∧ some (.ref a) = v9)) 1 22 (zA G) := by
  refine zopen (cc := b_Arrs_copyOf3) (maxL := 4) (ret := (some (FieldType.array (FieldType.object "java/lang/Object")))) (by decide) rfl (Nat.le_of_ble_eq_true rfl) ?_
  intro p e s m below meth c ls hC hr hlk hnm hd hl
  have hC : Cx G p c m s _ "java/util/Arrays" b_Arrs_copyOf3 4 := hC
  have hl : lv_has ls 4 [(0, .ref (ad 4 i)), (1, .int 22), (2, .ref (gm G))] := hl
  have hx := hC.1
  have hb := hC.2.1
  refine lv_aload_n hx hb d_Arrs_copyOf3_0 rfl (lv_at hl 2 rfl) ?_
  refine zldcM hC q_224 d_Arrs_copyOf3_1 ?_
  refine lv_acmp_ne (rx := some (gm G)) (ry := some (gm G)) (tgt := 13) hx hb d_Arrs_copyOf3_3 (by decide) (fun h => absurd rfl h) (fun _ => ?_)
  refine lv_iload_n hx hb d_Arrs_copyOf3_6 rfl (lv_at hl 1 rfl) ?_
  refine znewO (rest := []) hC hd 22 q_226 (by decide) (by decide) (Nat.le_of_ble_eq_true rfl) 5 (show 5 < xn Z 0 13 by omega) (Nat.le_of_ble_eq_true rfl) (Nat.le_of_ble_eq_true rfl) d_Arrs_copyOf3_7 (fun a ow H hd => ?_)
  refine lv_goto (tgt := 24) hx hb d_Arrs_copyOf3_10 (by decide) ?_
  refine lv_astore_n (lv' := [(3, .ref a), (0, .ref (ad 4 i)), (1, .int 22), (2, .ref (gm G))]) hx hb d_Arrs_copyOf3_24 rfl hl (by decide) rfl (fun ls hl => ?_)
  refine lv_aload_n hx hb d_Arrs_copyOf3_25 rfl (lv_at hl 1 rfl) ?_
  refine lv_iconst (v := 0) hx hb d_Arrs_copyOf3_26 (by decide) ?_
  refine lv_aload_n hx hb d_Arrs_copyOf3_27 rfl (lv_at hl 0 rfl) ?_
  refine lv_iconst (v := 0) hx hb d_Arrs_copyOf3_28 (by decide) ?_
  refine lv_aload_n hx hb d_Arrs_copyOf3_29 rfl (lv_at hl 1 rfl) ?_
  have he4 : ent G (upA ad 13 5 a) (sr Z 5 (some (rfA (gO G) 22 (fun _ => none)))) 4 i = some (rfA (gO G) 15 (elemF ad Z i)) := by have h9 := e_elem (G := G) (ad := upA ad 13 5 a) (Z := sr Z 5 (some (rfA (gO G) 22 (fun _ => none)))) (show i < xn Z 0 4 from hi4) (show xn Z 3 i ≠ 0 by omega); rw [show xn (sr Z 5 (some (rfA (gO G) 22 (fun _ => none)))) 3 i = 15 from hcap] at h9; exact h9
  refine zalen (ad := upA ad 13 5 a) (o := 4) (i := i) (rest := [.int 0, .ref a, .int 0, .ref (ad 4 i)]) hC hd he4 3 rfl (v := 15) rfl d_Arrs_copyOf3_30 ?_
  refine lv_iload_n hx hb d_Arrs_copyOf3_31 rfl (lv_at hl 2 rfl) ?_
  refine zmin (r := 15) hC hl.1 (by decide) q_227 (Nat.le_of_ble_eq_true rfl) (Nat.le_of_ble_eq_true rfl) (Nat.le_of_ble_eq_true rfl) (Nat.le_of_ble_eq_true rfl) d_Arrs_copyOf3_32 ?_
  have hcp : va_cpy (elemF ad Z i) (fun _ => none) (0 : Int32).toNatClampNeg (0 : Int32).toNatClampNeg (15 : Int32).toNatClampNeg = elemF ad Z i := cpy_elem (c := 15) (fun j hj => elem_none (hLI j hj))
  refine zcopy (Z' := sr (sr Z 5 (some (rfA (gO G) 22 (fun _ => none)))) 5 (some (rfA (gO G) 22 (elemF ad Z i)))) (ad := upA ad 13 5 a) (o := 4) (i := i) (o1 := 13) (i1 := 5) (f := elemF ad Z i) (g := fun _ => none) (sp := 0) (dp := 0) (n := 15) (rest := []) hC hd hl.1 he4 (e_raw (show 5 < xn Z 0 13 by omega) rfl) (by decide) (by decide) (by decide) (Nat.le_of_ble_eq_true rfl) (Nat.le_of_ble_eq_true rfl) (fun j hj y hy => ?_) (by rw [hcp]; exact u_raw (show 5 < xn Z 0 13 by omega)) q_230 q_232 q_231 q_11 (Nat.le_of_ble_eq_true rfl) (Nat.le_of_ble_eq_true rfl) d_Arrs_copyOf3_35 (fun H locs hd => ?_)
  · have hj2 : j < 15 := hj
    have h9 := hel j hj2
    rw [show (0 : Int32).toNatClampNeg + j = j from Nat.zero_add j] at hy
    rw [show elemF ad Z i j = some (ad 1 (xc Z 4 i j - 1)) from if_neg (by omega)] at hy
    cases hy
    exact ⟨xc Z 4 i j - 1, _, rfl, e_key (show xc Z 4 i j - 1 < xn Z 0 1 by omega)⟩
  · have hd := Dy.eq hd (sr_sr Z 5 _ _)
    refine lv_aload_n hx hb d_Arrs_copyOf3_38 rfl (lv_at hl 0 rfl) ?_
    exact zga hC hd hr (Or.inr ⟨_, rfl⟩) hlk d_Arrs_copyOf3_39 ⟨a, rfl, rfl, rfl⟩ (Nat.le_of_ble_eq_true rfl) (Nat.le_of_ble_eq_true rfl)
set_option maxHeartbeats 4000000 in
theorem c_copyOf3_22 (l : Launch) (G : Gt) (ad : Nat → Nat → Nat) (ow : Nat → Nat × Nat) (Z : Zt) (i : Nat) (hi4 : i < xn Z 0 4) (h13 : 50 ≤ xn Z 0 13) (hcap : xn Z 3 i = 22) (hLI : ∀ j, 22 ≤ j → xc Z 4 i j = 0) (hel : ∀ j, j < 22 → 1 ≤ xc Z 4 i j ∧ xc Z 4 i j ≤ xn Z 0 1) : Met l y_Arrs_copyOf3 w_Arrs_copyOf3 ({ frames := 1, cells := 1, slots := 33, locals := 60 }) (zPc G ad ow Z [.ref (ad 4 i), .int 33, .ref (gm G)]) (Qg G (fun ad9 _ Z9 v9 => ∃ a, upA ad 13 5 a = ad9 ∧ sr Z 5 (some (rfA (gO G) 33 (elemF ad Z i))) = Z9 ∧ some (.ref a) = v9)) 1 33 (zA G) := by
  refine zopen (cc := b_Arrs_copyOf3) (maxL := 4) (ret := (some (FieldType.array (FieldType.object "java/lang/Object")))) (by decide) rfl (Nat.le_of_ble_eq_true rfl) ?_
  intro p e s m below meth c ls hC hr hlk hnm hd hl
  have hC : Cx G p c m s _ "java/util/Arrays" b_Arrs_copyOf3 4 := hC
  have hl : lv_has ls 4 [(0, .ref (ad 4 i)), (1, .int 33), (2, .ref (gm G))] := hl
  have hx := hC.1
  have hb := hC.2.1
  refine lv_aload_n hx hb d_Arrs_copyOf3_0 rfl (lv_at hl 2 rfl) ?_
  refine zldcM hC q_224 d_Arrs_copyOf3_1 ?_
  refine lv_acmp_ne (rx := some (gm G)) (ry := some (gm G)) (tgt := 13) hx hb d_Arrs_copyOf3_3 (by decide) (fun h => absurd rfl h) (fun _ => ?_)
  refine lv_iload_n hx hb d_Arrs_copyOf3_6 rfl (lv_at hl 1 rfl) ?_
  refine znewO (rest := []) hC hd 33 q_226 (by decide) (by decide) (Nat.le_of_ble_eq_true rfl) 5 (show 5 < xn Z 0 13 by omega) (Nat.le_of_ble_eq_true rfl) (Nat.le_of_ble_eq_true rfl) d_Arrs_copyOf3_7 (fun a ow H hd => ?_)
  refine lv_goto (tgt := 24) hx hb d_Arrs_copyOf3_10 (by decide) ?_
  refine lv_astore_n (lv' := [(3, .ref a), (0, .ref (ad 4 i)), (1, .int 33), (2, .ref (gm G))]) hx hb d_Arrs_copyOf3_24 rfl hl (by decide) rfl (fun ls hl => ?_)
  refine lv_aload_n hx hb d_Arrs_copyOf3_25 rfl (lv_at hl 1 rfl) ?_
  refine lv_iconst (v := 0) hx hb d_Arrs_copyOf3_26 (by decide) ?_
  refine lv_aload_n hx hb d_Arrs_copyOf3_27 rfl (lv_at hl 0 rfl) ?_
  refine lv_iconst (v := 0) hx hb d_Arrs_copyOf3_28 (by decide) ?_
  refine lv_aload_n hx hb d_Arrs_copyOf3_29 rfl (lv_at hl 1 rfl) ?_
  have he4 : ent G (upA ad 13 5 a) (sr Z 5 (some (rfA (gO G) 33 (fun _ => none)))) 4 i = some (rfA (gO G) 22 (elemF ad Z i)) := by have h9 := e_elem (G := G) (ad := upA ad 13 5 a) (Z := sr Z 5 (some (rfA (gO G) 33 (fun _ => none)))) (show i < xn Z 0 4 from hi4) (show xn Z 3 i ≠ 0 by omega); rw [show xn (sr Z 5 (some (rfA (gO G) 33 (fun _ => none)))) 3 i = 22 from hcap] at h9; exact h9
  refine zalen (ad := upA ad 13 5 a) (o := 4) (i := i) (rest := [.int 0, .ref a, .int 0, .ref (ad 4 i)]) hC hd he4 3 rfl (v := 22) rfl d_Arrs_copyOf3_30 ?_
  refine lv_iload_n hx hb d_Arrs_copyOf3_31 rfl (lv_at hl 2 rfl) ?_
  refine zmin (r := 22) hC hl.1 (by decide) q_227 (Nat.le_of_ble_eq_true rfl) (Nat.le_of_ble_eq_true rfl) (Nat.le_of_ble_eq_true rfl) (Nat.le_of_ble_eq_true rfl) d_Arrs_copyOf3_32 ?_
  have hcp : va_cpy (elemF ad Z i) (fun _ => none) (0 : Int32).toNatClampNeg (0 : Int32).toNatClampNeg (22 : Int32).toNatClampNeg = elemF ad Z i := cpy_elem (c := 22) (fun j hj => elem_none (hLI j hj))
  refine zcopy (Z' := sr (sr Z 5 (some (rfA (gO G) 33 (fun _ => none)))) 5 (some (rfA (gO G) 33 (elemF ad Z i)))) (ad := upA ad 13 5 a) (o := 4) (i := i) (o1 := 13) (i1 := 5) (f := elemF ad Z i) (g := fun _ => none) (sp := 0) (dp := 0) (n := 22) (rest := []) hC hd hl.1 he4 (e_raw (show 5 < xn Z 0 13 by omega) rfl) (by decide) (by decide) (by decide) (Nat.le_of_ble_eq_true rfl) (Nat.le_of_ble_eq_true rfl) (fun j hj y hy => ?_) (by rw [hcp]; exact u_raw (show 5 < xn Z 0 13 by omega)) q_230 q_232 q_231 q_11 (Nat.le_of_ble_eq_true rfl) (Nat.le_of_ble_eq_true rfl) d_Arrs_copyOf3_35 (fun H locs hd => ?_)
  · have hj2 : j < 22 := hj
    have h9 := hel j hj2
    rw [show (0 : Int32).toNatClampNeg + j = j from Nat.zero_add j] at hy
    rw [show elemF ad Z i j = some (ad 1 (xc Z 4 i j - 1)) from if_neg (by omega)] at hy
    cases hy
    exact ⟨xc Z 4 i j - 1, _, rfl, e_key (show xc Z 4 i j - 1 < xn Z 0 1 by omega)⟩
  · have hd := Dy.eq hd (sr_sr Z 5 _ _)
    refine lv_aload_n hx hb d_Arrs_copyOf3_38 rfl (lv_at hl 0 rfl) ?_
    exact zga hC hd hr (Or.inr ⟨_, rfl⟩) hlk d_Arrs_copyOf3_39 ⟨a, rfl, rfl, rfl⟩ (Nat.le_of_ble_eq_true rfl) (Nat.le_of_ble_eq_true rfl)
set_option maxHeartbeats 4000000 in
theorem c_copyOf3_33 (l : Launch) (G : Gt) (ad : Nat → Nat → Nat) (ow : Nat → Nat × Nat) (Z : Zt) (i : Nat) (hi4 : i < xn Z 0 4) (h13 : 50 ≤ xn Z 0 13) (hcap : xn Z 3 i = 33) (hLI : ∀ j, 33 ≤ j → xc Z 4 i j = 0) (hel : ∀ j, j < 33 → 1 ≤ xc Z 4 i j ∧ xc Z 4 i j ≤ xn Z 0 1) : Met l y_Arrs_copyOf3 w_Arrs_copyOf3 ({ frames := 1, cells := 1, slots := 49, locals := 60 }) (zPc G ad ow Z [.ref (ad 4 i), .int 49, .ref (gm G)]) (Qg G (fun ad9 _ Z9 v9 => ∃ a, upA ad 13 5 a = ad9 ∧ sr Z 5 (some (rfA (gO G) 49 (elemF ad Z i))) = Z9 ∧ some (.ref a) = v9)) 1 49 (zA G) := by
  refine zopen (cc := b_Arrs_copyOf3) (maxL := 4) (ret := (some (FieldType.array (FieldType.object "java/lang/Object")))) (by decide) rfl (Nat.le_of_ble_eq_true rfl) ?_
  intro p e s m below meth c ls hC hr hlk hnm hd hl
  have hC : Cx G p c m s _ "java/util/Arrays" b_Arrs_copyOf3 4 := hC
  have hl : lv_has ls 4 [(0, .ref (ad 4 i)), (1, .int 49), (2, .ref (gm G))] := hl
  have hx := hC.1
  have hb := hC.2.1
  refine lv_aload_n hx hb d_Arrs_copyOf3_0 rfl (lv_at hl 2 rfl) ?_
  refine zldcM hC q_224 d_Arrs_copyOf3_1 ?_
  refine lv_acmp_ne (rx := some (gm G)) (ry := some (gm G)) (tgt := 13) hx hb d_Arrs_copyOf3_3 (by decide) (fun h => absurd rfl h) (fun _ => ?_)
  refine lv_iload_n hx hb d_Arrs_copyOf3_6 rfl (lv_at hl 1 rfl) ?_
  refine znewO (rest := []) hC hd 49 q_226 (by decide) (by decide) (Nat.le_of_ble_eq_true rfl) 5 (show 5 < xn Z 0 13 by omega) (Nat.le_of_ble_eq_true rfl) (Nat.le_of_ble_eq_true rfl) d_Arrs_copyOf3_7 (fun a ow H hd => ?_)
  refine lv_goto (tgt := 24) hx hb d_Arrs_copyOf3_10 (by decide) ?_
  refine lv_astore_n (lv' := [(3, .ref a), (0, .ref (ad 4 i)), (1, .int 49), (2, .ref (gm G))]) hx hb d_Arrs_copyOf3_24 rfl hl (by decide) rfl (fun ls hl => ?_)
  refine lv_aload_n hx hb d_Arrs_copyOf3_25 rfl (lv_at hl 1 rfl) ?_
  refine lv_iconst (v := 0) hx hb d_Arrs_copyOf3_26 (by decide) ?_
  refine lv_aload_n hx hb d_Arrs_copyOf3_27 rfl (lv_at hl 0 rfl) ?_
  refine lv_iconst (v := 0) hx hb d_Arrs_copyOf3_28 (by decide) ?_
  refine lv_aload_n hx hb d_Arrs_copyOf3_29 rfl (lv_at hl 1 rfl) ?_
  have he4 : ent G (upA ad 13 5 a) (sr Z 5 (some (rfA (gO G) 49 (fun _ => none)))) 4 i = some (rfA (gO G) 33 (elemF ad Z i)) := by have h9 := e_elem (G := G) (ad := upA ad 13 5 a) (Z := sr Z 5 (some (rfA (gO G) 49 (fun _ => none)))) (show i < xn Z 0 4 from hi4) (show xn Z 3 i ≠ 0 by omega); rw [show xn (sr Z 5 (some (rfA (gO G) 49 (fun _ => none)))) 3 i = 33 from hcap] at h9; exact h9
  refine zalen (ad := upA ad 13 5 a) (o := 4) (i := i) (rest := [.int 0, .ref a, .int 0, .ref (ad 4 i)]) hC hd he4 3 rfl (v := 33) rfl d_Arrs_copyOf3_30 ?_
  refine lv_iload_n hx hb d_Arrs_copyOf3_31 rfl (lv_at hl 2 rfl) ?_
  refine zmin (r := 33) hC hl.1 (by decide) q_227 (Nat.le_of_ble_eq_true rfl) (Nat.le_of_ble_eq_true rfl) (Nat.le_of_ble_eq_true rfl) (Nat.le_of_ble_eq_true rfl) d_Arrs_copyOf3_32 ?_
  have hcp : va_cpy (elemF ad Z i) (fun _ => none) (0 : Int32).toNatClampNeg (0 : Int32).toNatClampNeg (33 : Int32).toNatClampNeg = elemF ad Z i := cpy_elem (c := 33) (fun j hj => elem_none (hLI j hj))
  refine zcopy (Z' := sr (sr Z 5 (some (rfA (gO G) 49 (fun _ => none)))) 5 (some (rfA (gO G) 49 (elemF ad Z i)))) (ad := upA ad 13 5 a) (o := 4) (i := i) (o1 := 13) (i1 := 5) (f := elemF ad Z i) (g := fun _ => none) (sp := 0) (dp := 0) (n := 33) (rest := []) hC hd hl.1 he4 (e_raw (show 5 < xn Z 0 13 by omega) rfl) (by decide) (by decide) (by decide) (Nat.le_of_ble_eq_true rfl) (Nat.le_of_ble_eq_true rfl) (fun j hj y hy => ?_) (by rw [hcp]; exact u_raw (show 5 < xn Z 0 13 by omega)) q_230 q_232 q_231 q_11 (Nat.le_of_ble_eq_true rfl) (Nat.le_of_ble_eq_true rfl) d_Arrs_copyOf3_35 (fun H locs hd => ?_)
  · have hj2 : j < 33 := hj
    have h9 := hel j hj2
    rw [show (0 : Int32).toNatClampNeg + j = j from Nat.zero_add j] at hy
    rw [show elemF ad Z i j = some (ad 1 (xc Z 4 i j - 1)) from if_neg (by omega)] at hy
    cases hy
    exact ⟨xc Z 4 i j - 1, _, rfl, e_key (show xc Z 4 i j - 1 < xn Z 0 1 by omega)⟩
  · have hd := Dy.eq hd (sr_sr Z 5 _ _)
    refine lv_aload_n hx hb d_Arrs_copyOf3_38 rfl (lv_at hl 0 rfl) ?_
    exact zga hC hd hr (Or.inr ⟨_, rfl⟩) hlk d_Arrs_copyOf3_39 ⟨a, rfl, rfl, rfl⟩ (Nat.le_of_ble_eq_true rfl) (Nat.le_of_ble_eq_true rfl)
set_option maxHeartbeats 4000000 in
theorem c_copyOf2_10 (l : Launch) (G : Gt) (ad : Nat → Nat → Nat) (ow : Nat → Nat × Nat) (Z : Zt) (i : Nat) (hi4 : i < xn Z 0 4) (h13 : 50 ≤ xn Z 0 13) (hcap : xn Z 3 i = 10) (hLI : ∀ j, 10 ≤ j → xc Z 4 i j = 0) (hel : ∀ j, j < 10 → 1 ≤ xc Z 4 i j ∧ xc Z 4 i j ≤ xn Z 0 1) : Met l y_Arrs_copyOf2 w_Arrs_copyOf2 ({ frames := 2, cells := 1, slots := 15, locals := 83 }) (zPc G ad ow Z [.ref (ad 4 i), .int 15]) (Qg G (fun ad9 _ Z9 v9 => ∃ a, upA ad 13 5 a = ad9 ∧ sr Z 5 (some (rfA (gO G) 15 (elemF ad Z i))) = Z9 ∧ some (.ref a) = v9)) 1 15 (zA G) := by
  refine zopen (cc := b_Arrs_copyOf2) (maxL := 2) (ret := (some (FieldType.array (FieldType.object "java/lang/Object")))) (by decide) rfl (Nat.le_of_ble_eq_true rfl) ?_
  intro p e s m below meth c ls hC hr hlk hnm hd hl
  have hC : Cx G p c m s _ "java/util/Arrays" b_Arrs_copyOf2 2 := hC
  have hl : lv_has ls 2 [(0, .ref (ad 4 i)), (1, .int 15)] := hl
  have hx := hC.1
  have hb := hC.2.1
  refine lv_aload_n hx hb d_Arrs_copyOf2_0 rfl (lv_at hl 0 rfl) ?_
  refine lv_iload_n hx hb d_Arrs_copyOf2_1 rfl (lv_at hl 1 rfl) ?_
  refine lv_aload_n hx hb d_Arrs_copyOf2_2 rfl (lv_at hl 0 rfl) ?_
  have he4 : ent G ad Z 4 i = some (rfA (gO G) 10 (elemF ad Z i)) := by have h9 := e_elem (G := G) (ad := ad) (Z := Z) hi4 (show xn Z 3 i ≠ 0 by omega); rw [hcap] at h9; exact h9
  refine zgetC hC hd hl.1 he4 q_205 (Nat.le_of_ble_eq_true rfl) (Nat.le_of_ble_eq_true rfl) d_Arrs_copyOf2_3 ?_
  refine zbackg hd (zrunS (n := 3) (rest := []) hC hd (c_copyOf3_10 l G ad ow Z i hi4 h13 hcap hLI hel) q_221 q_222 q_10 q_223 rfl rfl rfl ⟨by decide, by decide, by decide +kernel⟩ ⟨by decide, by decide⟩ rfl hl.1 (Nat.le_of_ble_eq_true rfl) d_Arrs_copyOf2_6 ⟨by decide, by decide⟩) rfl rfl (fun ad9 ow Z9 v9 H locs hq hd => ?_)
  obtain ⟨a, rfl, rfl, rfl⟩ := hq
  exact zga hC hd hr (Or.inr ⟨_, rfl⟩) hlk d_Arrs_copyOf2_9 ⟨a, rfl, rfl, rfl⟩ (Nat.le_of_ble_eq_true rfl) (Nat.le_of_ble_eq_true rfl)
set_option maxHeartbeats 4000000 in
theorem c_copyOf2_15 (l : Launch) (G : Gt) (ad : Nat → Nat → Nat) (ow : Nat → Nat × Nat) (Z : Zt) (i : Nat) (hi4 : i < xn Z 0 4) (h13 : 50 ≤ xn Z 0 13) (hcap : xn Z 3 i = 15) (hLI : ∀ j, 15 ≤ j → xc Z 4 i j = 0) (hel : ∀ j, j < 15 → 1 ≤ xc Z 4 i j ∧ xc Z 4 i j ≤ xn Z 0 1) : Met l y_Arrs_copyOf2 w_Arrs_copyOf2 ({ frames := 2, cells := 1, slots := 22, locals := 83 }) (zPc G ad ow Z [.ref (ad 4 i), .int 22]) (Qg G (fun ad9 _ Z9 v9 => ∃ a, upA ad 13 5 a = ad9 ∧ sr Z 5 (some (rfA (gO G) 22 (elemF ad Z i))) = Z9 ∧ some (.ref a) = v9)) 1 22 (zA G) := by
  refine zopen (cc := b_Arrs_copyOf2) (maxL := 2) (ret := (some (FieldType.array (FieldType.object "java/lang/Object")))) (by decide) rfl (Nat.le_of_ble_eq_true rfl) ?_
  intro p e s m below meth c ls hC hr hlk hnm hd hl
  have hC : Cx G p c m s _ "java/util/Arrays" b_Arrs_copyOf2 2 := hC
  have hl : lv_has ls 2 [(0, .ref (ad 4 i)), (1, .int 22)] := hl
  have hx := hC.1
  have hb := hC.2.1
  refine lv_aload_n hx hb d_Arrs_copyOf2_0 rfl (lv_at hl 0 rfl) ?_
  refine lv_iload_n hx hb d_Arrs_copyOf2_1 rfl (lv_at hl 1 rfl) ?_
  refine lv_aload_n hx hb d_Arrs_copyOf2_2 rfl (lv_at hl 0 rfl) ?_
  have he4 : ent G ad Z 4 i = some (rfA (gO G) 15 (elemF ad Z i)) := by have h9 := e_elem (G := G) (ad := ad) (Z := Z) hi4 (show xn Z 3 i ≠ 0 by omega); rw [hcap] at h9; exact h9
  refine zgetC hC hd hl.1 he4 q_205 (Nat.le_of_ble_eq_true rfl) (Nat.le_of_ble_eq_true rfl) d_Arrs_copyOf2_3 ?_
  refine zbackg hd (zrunS (n := 3) (rest := []) hC hd (c_copyOf3_15 l G ad ow Z i hi4 h13 hcap hLI hel) q_221 q_222 q_10 q_223 rfl rfl rfl ⟨by decide, by decide, by decide +kernel⟩ ⟨by decide, by decide⟩ rfl hl.1 (Nat.le_of_ble_eq_true rfl) d_Arrs_copyOf2_6 ⟨by decide, by decide⟩) rfl rfl (fun ad9 ow Z9 v9 H locs hq hd => ?_)
  obtain ⟨a, rfl, rfl, rfl⟩ := hq
  exact zga hC hd hr (Or.inr ⟨_, rfl⟩) hlk d_Arrs_copyOf2_9 ⟨a, rfl, rfl, rfl⟩ (Nat.le_of_ble_eq_true rfl) (Nat.le_of_ble_eq_true rfl)
set_option maxHeartbeats 4000000 in
theorem c_copyOf2_22 (l : Launch) (G : Gt) (ad : Nat → Nat → Nat) (ow : Nat → Nat × Nat) (Z : Zt) (i : Nat) (hi4 : i < xn Z 0 4) (h13 : 50 ≤ xn Z 0 13) (hcap : xn Z 3 i = 22) (hLI : ∀ j, 22 ≤ j → xc Z 4 i j = 0) (hel : ∀ j, j < 22 → 1 ≤ xc Z 4 i j ∧ xc Z 4 i j ≤ xn Z 0 1) : Met l y_Arrs_copyOf2 w_Arrs_copyOf2 ({ frames := 2, cells := 1, slots := 33, locals := 83 }) (zPc G ad ow Z [.ref (ad 4 i), .int 33]) (Qg G (fun ad9 _ Z9 v9 => ∃ a, upA ad 13 5 a = ad9 ∧ sr Z 5 (some (rfA (gO G) 33 (elemF ad Z i))) = Z9 ∧ some (.ref a) = v9)) 1 33 (zA G) := by
  refine zopen (cc := b_Arrs_copyOf2) (maxL := 2) (ret := (some (FieldType.array (FieldType.object "java/lang/Object")))) (by decide) rfl (Nat.le_of_ble_eq_true rfl) ?_
  intro p e s m below meth c ls hC hr hlk hnm hd hl
  have hC : Cx G p c m s _ "java/util/Arrays" b_Arrs_copyOf2 2 := hC
  have hl : lv_has ls 2 [(0, .ref (ad 4 i)), (1, .int 33)] := hl
  have hx := hC.1
  have hb := hC.2.1
  refine lv_aload_n hx hb d_Arrs_copyOf2_0 rfl (lv_at hl 0 rfl) ?_
  refine lv_iload_n hx hb d_Arrs_copyOf2_1 rfl (lv_at hl 1 rfl) ?_
  refine lv_aload_n hx hb d_Arrs_copyOf2_2 rfl (lv_at hl 0 rfl) ?_
  have he4 : ent G ad Z 4 i = some (rfA (gO G) 22 (elemF ad Z i)) := by have h9 := e_elem (G := G) (ad := ad) (Z := Z) hi4 (show xn Z 3 i ≠ 0 by omega); rw [hcap] at h9; exact h9
  refine zgetC hC hd hl.1 he4 q_205 (Nat.le_of_ble_eq_true rfl) (Nat.le_of_ble_eq_true rfl) d_Arrs_copyOf2_3 ?_
  refine zbackg hd (zrunS (n := 3) (rest := []) hC hd (c_copyOf3_22 l G ad ow Z i hi4 h13 hcap hLI hel) q_221 q_222 q_10 q_223 rfl rfl rfl ⟨by decide, by decide, by decide +kernel⟩ ⟨by decide, by decide⟩ rfl hl.1 (Nat.le_of_ble_eq_true rfl) d_Arrs_copyOf2_6 ⟨by decide, by decide⟩) rfl rfl (fun ad9 ow Z9 v9 H locs hq hd => ?_)
  obtain ⟨a, rfl, rfl, rfl⟩ := hq
  exact zga hC hd hr (Or.inr ⟨_, rfl⟩) hlk d_Arrs_copyOf2_9 ⟨a, rfl, rfl, rfl⟩ (Nat.le_of_ble_eq_true rfl) (Nat.le_of_ble_eq_true rfl)
set_option maxHeartbeats 4000000 in
theorem c_copyOf2_33 (l : Launch) (G : Gt) (ad : Nat → Nat → Nat) (ow : Nat → Nat × Nat) (Z : Zt) (i : Nat) (hi4 : i < xn Z 0 4) (h13 : 50 ≤ xn Z 0 13) (hcap : xn Z 3 i = 33) (hLI : ∀ j, 33 ≤ j → xc Z 4 i j = 0) (hel : ∀ j, j < 33 → 1 ≤ xc Z 4 i j ∧ xc Z 4 i j ≤ xn Z 0 1) : Met l y_Arrs_copyOf2 w_Arrs_copyOf2 ({ frames := 2, cells := 1, slots := 49, locals := 83 }) (zPc G ad ow Z [.ref (ad 4 i), .int 49]) (Qg G (fun ad9 _ Z9 v9 => ∃ a, upA ad 13 5 a = ad9 ∧ sr Z 5 (some (rfA (gO G) 49 (elemF ad Z i))) = Z9 ∧ some (.ref a) = v9)) 1 49 (zA G) := by
  refine zopen (cc := b_Arrs_copyOf2) (maxL := 2) (ret := (some (FieldType.array (FieldType.object "java/lang/Object")))) (by decide) rfl (Nat.le_of_ble_eq_true rfl) ?_
  intro p e s m below meth c ls hC hr hlk hnm hd hl
  have hC : Cx G p c m s _ "java/util/Arrays" b_Arrs_copyOf2 2 := hC
  have hl : lv_has ls 2 [(0, .ref (ad 4 i)), (1, .int 49)] := hl
  have hx := hC.1
  have hb := hC.2.1
  refine lv_aload_n hx hb d_Arrs_copyOf2_0 rfl (lv_at hl 0 rfl) ?_
  refine lv_iload_n hx hb d_Arrs_copyOf2_1 rfl (lv_at hl 1 rfl) ?_
  refine lv_aload_n hx hb d_Arrs_copyOf2_2 rfl (lv_at hl 0 rfl) ?_
  have he4 : ent G ad Z 4 i = some (rfA (gO G) 33 (elemF ad Z i)) := by have h9 := e_elem (G := G) (ad := ad) (Z := Z) hi4 (show xn Z 3 i ≠ 0 by omega); rw [hcap] at h9; exact h9
  refine zgetC hC hd hl.1 he4 q_205 (Nat.le_of_ble_eq_true rfl) (Nat.le_of_ble_eq_true rfl) d_Arrs_copyOf2_3 ?_
  refine zbackg hd (zrunS (n := 3) (rest := []) hC hd (c_copyOf3_33 l G ad ow Z i hi4 h13 hcap hLI hel) q_221 q_222 q_10 q_223 rfl rfl rfl ⟨by decide, by decide, by decide +kernel⟩ ⟨by decide, by decide⟩ rfl hl.1 (Nat.le_of_ble_eq_true rfl) d_Arrs_copyOf2_6 ⟨by decide, by decide⟩) rfl rfl (fun ad9 ow Z9 v9 H locs hq hd => ?_)
  obtain ⟨a, rfl, rfl, rfl⟩ := hq
  exact zga hC hd hr (Or.inr ⟨_, rfl⟩) hlk d_Arrs_copyOf2_9 ⟨a, rfl, rfl, rfl⟩ (Nat.le_of_ble_eq_true rfl) (Nat.le_of_ble_eq_true rfl)
set_option maxHeartbeats 4000000 in
theorem c_grow1_0 (l : Launch) (G : Gt) (ad : Nat → Nat → Nat) (ow : Nat → Nat × Nat) (Z : Zt) (i : Nat) (hi4 : i < xn Z 0 4) (h13 : 50 ≤ xn Z 0 13) (hcap : xn Z 3 i = 0) (hLI : ∀ j, 0 ≤ j → xc Z 4 i j = 0) (hel : ∀ j, j < 0 → 1 ≤ xc Z 4 i j ∧ xc Z 4 i j ≤ xn Z 0 1) (hi : i < xn Z 0 3) (hraw : xr Z 5 = none) : Met l y_AL_grow1 w_AL_grow1 ({ frames := 3, cells := 1, slots := 10, locals := 104 }) (zPc G ad ow Z [.ref (ad 3 i), .int 1]) (Qg G (fun ad9 _ Z9 v9 => ∃ a b, upA (upA ad 13 5 b) 4 i a = ad9 ∧ sn Z 3 i 10 = Z9 ∧ some (.ref a) = v9)) 1 10 (zA G) := by
  refine zopen (cc := b_AL_grow1) (maxL := 4) (ret := (some (FieldType.array (FieldType.object "java/lang/Object")))) (by decide) rfl (Nat.le_of_ble_eq_true rfl) ?_
  intro p e s m below meth c ls hC hr hlk hnm hd hl
  have hC : Cx G p c m s _ "java/util/ArrayList" b_AL_grow1 4 := hC
  have hl : lv_has ls 4 [(0, .ref (ad 3 i)), (1, .int 1)] := hl
  have hx := hC.1
  have hb := hC.2.1
  refine lv_aload_n hx hb d_AL_grow1_0 rfl (lv_at hl 0 rfl) ?_
  refine zget hC hd (e_list hi) rfl i_AL 1 (by decide) q_47 (Or.inl rfl) (v := .ref (ge G)) (congrArg (fun q => some (Value.ref q)) (if_pos hcap)) d_AL_grow1_1 ?_
  refine zalenE hC hd d_AL_grow1_4 ?_
  refine lv_istore_n (lv' := [(2, .int 0), (0, .ref (ad 3 i)), (1, .int 1)]) hx hb d_AL_grow1_5 rfl hl (by decide) rfl (fun ls hl => ?_)
  refine lv_iload_n hx hb d_AL_grow1_6 rfl (lv_at hl 0 rfl) ?_
  refine lv_if_gt (tgt := 20) hx hb d_AL_grow1_7 (by decide) (fun c => absurd c (by decide)) (fun _ => ?_)
  refine lv_aload_n hx hb d_AL_grow1_10 rfl (lv_at hl 1 rfl) ?_
  refine zget hC hd (e_list hi) rfl i_AL 1 (by decide) q_47 (Or.inl rfl) (v := .ref (ge G)) (congrArg (fun q => some (Value.ref q)) (if_pos hcap)) d_AL_grow1_11 ?_
  refine zgetsE hC hd q_45 d_AL_grow1_14 ?_
  refine lv_acmp_eq (rx := some (ge G)) (ry := some (ge G)) (tgt := 45) hx hb d_AL_grow1_17 (by decide) (fun _ => ?_) (fun h => absurd rfl h)
  refine lv_aload_n hx hb d_AL_grow1_45 rfl (lv_at hl 1 rfl) ?_
  refine lv_bipush (v := 10) hx hb d_AL_grow1_46 (by decide) ?_
  refine lv_iload_n hx hb d_AL_grow1_48 rfl (lv_at hl 2 rfl) ?_
  refine zmax (r := 10) hC hl.1 (by decide) q_233 (Nat.le_of_ble_eq_true rfl) (Nat.le_of_ble_eq_true rfl) (Nat.le_of_ble_eq_true rfl) (Nat.le_of_ble_eq_true rfl) d_AL_grow1_49 ?_
  refine znewO (rest := [.ref (ad 3 i)]) hC hd 10 q_234 (by decide) (by decide) (Nat.le_of_ble_eq_true rfl) 5 (show 5 < xn Z 0 13 by omega) (Nat.le_of_ble_eq_true rfl) (Nat.le_of_ble_eq_true rfl) d_AL_grow1_52 (fun a ow H hd => ?_)
  refine lv_dup_x1 hx hb d_AL_grow1_55 rfl rfl ?_
  refine zputE (ad := upA ad 13 5 a) (Z := sr Z 5 (some (rfA (gO G) 10 (fun _ => none)))) (r := 5) (i := i) (n := 10) (f := fun _ => none) (rest := [.ref a]) hC hd (show i < xn Z 0 3 from hi) (show 5 < xn Z 0 13 by omega) (show i < xn Z 0 4 from hi4) rfl (funext fun j => (elem_none (ad := ad) (hLI j (Nat.zero_le j))).symm) (by decide) q_47 d_AL_grow1_56 (fun ow H locs hd => ?_)
  rw [sr_back hraw] at hd
  exact zga hC hd hr (Or.inr ⟨_, rfl⟩) hlk d_AL_grow1_59 ⟨a, a, rfl, rfl, rfl⟩ (Nat.le_of_ble_eq_true rfl) (Nat.le_of_ble_eq_true rfl)
set_option maxHeartbeats 4000000 in
theorem c_grow1_10 (l : Launch) (G : Gt) (ad : Nat → Nat → Nat) (ow : Nat → Nat × Nat) (Z : Zt) (i : Nat) (hi4 : i < xn Z 0 4) (h13 : 50 ≤ xn Z 0 13) (hcap : xn Z 3 i = 10) (hLI : ∀ j, 10 ≤ j → xc Z 4 i j = 0) (hel : ∀ j, j < 10 → 1 ≤ xc Z 4 i j ∧ xc Z 4 i j ≤ xn Z 0 1) (hi : i < xn Z 0 3) (hraw : xr Z 5 = none) : Met l y_AL_grow1 w_AL_grow1 ({ frames := 3, cells := 1, slots := 15, locals := 104 }) (zPc G ad ow Z [.ref (ad 3 i), .int 11]) (Qg G (fun ad9 _ Z9 v9 => ∃ a b, upA (upA ad 13 5 b) 4 i a = ad9 ∧ sn Z 3 i 15 = Z9 ∧ some (.ref a) = v9)) 1 15 (zA G) := by
  refine zopen (cc := b_AL_grow1) (maxL := 4) (ret := (some (FieldType.array (FieldType.object "java/lang/Object")))) (by decide) rfl (Nat.le_of_ble_eq_true rfl) ?_
  intro p e s m below meth c ls hC hr hlk hnm hd hl
  have hC : Cx G p c m s _ "java/util/ArrayList" b_AL_grow1 4 := hC
  have hl : lv_has ls 4 [(0, .ref (ad 3 i)), (1, .int 11)] := hl
  have hx := hC.1
  have hb := hC.2.1
  refine lv_aload_n hx hb d_AL_grow1_0 rfl (lv_at hl 0 rfl) ?_
  refine zget hC hd (e_list hi) rfl i_AL 1 (by decide) q_47 (Or.inl rfl) (v := .ref (ad 4 i)) (congrArg (fun q => some (Value.ref q)) (if_neg (show ¬ xn Z 3 i = 0 by omega))) d_AL_grow1_1 ?_
  have he4 : ent G ad Z 4 i = some (rfA (gO G) 10 (elemF ad Z i)) := by have h9 := e_elem (G := G) (ad := ad) (Z := Z) hi4 (show xn Z 3 i ≠ 0 by omega); rw [hcap] at h9; exact h9
  refine zalen hC hd he4 3 rfl (v := 10) rfl d_AL_grow1_4 ?_
  refine lv_istore_n (lv' := [(2, .int 10), (0, .ref (ad 3 i)), (1, .int 11)]) hx hb d_AL_grow1_5 rfl hl (by decide) rfl (fun ls hl => ?_)
  refine lv_iload_n hx hb d_AL_grow1_6 rfl (lv_at hl 0 rfl) ?_
  refine lv_if_gt (tgt := 20) hx hb d_AL_grow1_7 (by decide) (fun _ => ?_) (fun c => absurd c (by decide))
  refine lv_iload_n hx hb d_AL_grow1_20 rfl (lv_at hl 0 rfl) ?_
  refine lv_iload_n hx hb d_AL_grow1_21 rfl (lv_at hl 2 rfl) ?_
  refine lv_iload_n hx hb d_AL_grow1_22 rfl (lv_at hl 0 rfl) ?_
  refine zsubL (r := 1) (by decide) hx hb d_AL_grow1_23 ?_
  refine lv_iload_n hx hb d_AL_grow1_24 rfl (lv_at hl 0 rfl) ?_
  refine lv_iconst (v := 1) hx hb d_AL_grow1_25 (by decide) ?_
  refine zshrL (r := 5) (by decide) hx hb d_AL_grow1_26 ?_
  refine zb_i hd (zrunS (n := 3) (rest := []) hC hd (c_newLength_10 l G ad ow Z) q_192 q_193 q_8 q_194 rfl rfl rfl ⟨by decide, by decide, by decide +kernel⟩ ⟨by decide, by decide⟩ rfl hl.1 (Nat.le_of_ble_eq_true rfl) d_AL_grow1_27 ⟨by decide, by decide⟩) (fun H locs hd => ?_)
  refine lv_istore_n (lv' := [(3, .int 15), (2, .int 10), (0, .ref (ad 3 i)), (1, .int 11)]) hx hb d_AL_grow1_30 rfl hl (by decide) rfl (fun ls hl => ?_)
  refine lv_aload_n hx hb d_AL_grow1_31 rfl (lv_at hl 2 rfl) ?_
  refine lv_aload_n hx hb d_AL_grow1_32 rfl (lv_at hl 2 rfl) ?_
  refine zget hC hd (e_list hi) rfl i_AL 1 (by decide) q_47 (Or.inl rfl) (v := .ref (ad 4 i)) (congrArg (fun q => some (Value.ref q)) (if_neg (show ¬ xn Z 3 i = 0 by omega))) d_AL_grow1_33 ?_
  refine lv_iload_n hx hb d_AL_grow1_36 rfl (lv_at hl 0 rfl) ?_
  refine zbackg hd (zrunS (n := 2) (rest := [.ref (ad 3 i)]) hC hd (c_copyOf2_10 l G ad ow Z i hi4 h13 hcap hLI hel) q_202 q_203 q_10 q_204 rfl rfl rfl ⟨by decide, by decide, by decide +kernel⟩ ⟨by decide, by decide⟩ rfl hl.1 (Nat.le_of_ble_eq_true rfl) d_AL_grow1_37 ⟨by decide, by decide⟩) rfl rfl (fun ad9 ow Z9 v9 H locs hq hd => ?_)
  obtain ⟨a, rfl, rfl, rfl⟩ := hq
  change W _ _ _ _ _ _ _ _ _ _ _ _ _ _ _ (F0 m 40 ls [.ref a, .ref (ad 3 i)])
  refine lv_dup_x1 hx hb d_AL_grow1_40 rfl rfl ?_
  refine zputE (ad := upA ad 13 5 a) (Z := sr Z 5 (some (rfA (gO G) 15 (elemF ad Z i)))) (r := 5) (i := i) (n := 15) (f := elemF ad Z i) (rest := [.ref a]) hC hd (show i < xn Z 0 3 from hi) (show 5 < xn Z 0 13 by omega) (show i < xn Z 0 4 from hi4) rfl rfl (by decide) q_47 d_AL_grow1_41 (fun ow H locs hd => ?_)
  rw [sr_back hraw] at hd
  exact zga hC hd hr (Or.inr ⟨_, rfl⟩) hlk d_AL_grow1_44 ⟨a, a, rfl, rfl, rfl⟩ (Nat.le_of_ble_eq_true rfl) (Nat.le_of_ble_eq_true rfl)
set_option maxHeartbeats 4000000 in
theorem c_grow1_15 (l : Launch) (G : Gt) (ad : Nat → Nat → Nat) (ow : Nat → Nat × Nat) (Z : Zt) (i : Nat) (hi4 : i < xn Z 0 4) (h13 : 50 ≤ xn Z 0 13) (hcap : xn Z 3 i = 15) (hLI : ∀ j, 15 ≤ j → xc Z 4 i j = 0) (hel : ∀ j, j < 15 → 1 ≤ xc Z 4 i j ∧ xc Z 4 i j ≤ xn Z 0 1) (hi : i < xn Z 0 3) (hraw : xr Z 5 = none) : Met l y_AL_grow1 w_AL_grow1 ({ frames := 3, cells := 1, slots := 22, locals := 104 }) (zPc G ad ow Z [.ref (ad 3 i), .int 16]) (Qg G (fun ad9 _ Z9 v9 => ∃ a b, upA (upA ad 13 5 b) 4 i a = ad9 ∧ sn Z 3 i 22 = Z9 ∧ some (.ref a) = v9)) 1 22 (zA G) := by
  refine zopen (cc := b_AL_grow1) (maxL := 4) (ret := (some (FieldType.array (FieldType.object "java/lang/Object")))) (by decide) rfl (Nat.le_of_ble_eq_true rfl) ?_
  intro p e s m below meth c ls hC hr hlk hnm hd hl
  have hC : Cx G p c m s _ "java/util/ArrayList" b_AL_grow1 4 := hC
  have hl : lv_has ls 4 [(0, .ref (ad 3 i)), (1, .int 16)] := hl
  have hx := hC.1
  have hb := hC.2.1
  refine lv_aload_n hx hb d_AL_grow1_0 rfl (lv_at hl 0 rfl) ?_
  refine zget hC hd (e_list hi) rfl i_AL 1 (by decide) q_47 (Or.inl rfl) (v := .ref (ad 4 i)) (congrArg (fun q => some (Value.ref q)) (if_neg (show ¬ xn Z 3 i = 0 by omega))) d_AL_grow1_1 ?_
  have he4 : ent G ad Z 4 i = some (rfA (gO G) 15 (elemF ad Z i)) := by have h9 := e_elem (G := G) (ad := ad) (Z := Z) hi4 (show xn Z 3 i ≠ 0 by omega); rw [hcap] at h9; exact h9
  refine zalen hC hd he4 3 rfl (v := 15) rfl d_AL_grow1_4 ?_
  refine lv_istore_n (lv' := [(2, .int 15), (0, .ref (ad 3 i)), (1, .int 16)]) hx hb d_AL_grow1_5 rfl hl (by decide) rfl (fun ls hl => ?_)
  refine lv_iload_n hx hb d_AL_grow1_6 rfl (lv_at hl 0 rfl) ?_
  refine lv_if_gt (tgt := 20) hx hb d_AL_grow1_7 (by decide) (fun _ => ?_) (fun c => absurd c (by decide))
  refine lv_iload_n hx hb d_AL_grow1_20 rfl (lv_at hl 0 rfl) ?_
  refine lv_iload_n hx hb d_AL_grow1_21 rfl (lv_at hl 2 rfl) ?_
  refine lv_iload_n hx hb d_AL_grow1_22 rfl (lv_at hl 0 rfl) ?_
  refine zsubL (r := 1) (by decide) hx hb d_AL_grow1_23 ?_
  refine lv_iload_n hx hb d_AL_grow1_24 rfl (lv_at hl 0 rfl) ?_
  refine lv_iconst (v := 1) hx hb d_AL_grow1_25 (by decide) ?_
  refine zshrL (r := 7) (by decide) hx hb d_AL_grow1_26 ?_
  refine zb_i hd (zrunS (n := 3) (rest := []) hC hd (c_newLength_15 l G ad ow Z) q_192 q_193 q_8 q_194 rfl rfl rfl ⟨by decide, by decide, by decide +kernel⟩ ⟨by decide, by decide⟩ rfl hl.1 (Nat.le_of_ble_eq_true rfl) d_AL_grow1_27 ⟨by decide, by decide⟩) (fun H locs hd => ?_)
  refine lv_istore_n (lv' := [(3, .int 22), (2, .int 15), (0, .ref (ad 3 i)), (1, .int 16)]) hx hb d_AL_grow1_30 rfl hl (by decide) rfl (fun ls hl => ?_)
  refine lv_aload_n hx hb d_AL_grow1_31 rfl (lv_at hl 2 rfl) ?_
  refine lv_aload_n hx hb d_AL_grow1_32 rfl (lv_at hl 2 rfl) ?_
  refine zget hC hd (e_list hi) rfl i_AL 1 (by decide) q_47 (Or.inl rfl) (v := .ref (ad 4 i)) (congrArg (fun q => some (Value.ref q)) (if_neg (show ¬ xn Z 3 i = 0 by omega))) d_AL_grow1_33 ?_
  refine lv_iload_n hx hb d_AL_grow1_36 rfl (lv_at hl 0 rfl) ?_
  refine zbackg hd (zrunS (n := 2) (rest := [.ref (ad 3 i)]) hC hd (c_copyOf2_15 l G ad ow Z i hi4 h13 hcap hLI hel) q_202 q_203 q_10 q_204 rfl rfl rfl ⟨by decide, by decide, by decide +kernel⟩ ⟨by decide, by decide⟩ rfl hl.1 (Nat.le_of_ble_eq_true rfl) d_AL_grow1_37 ⟨by decide, by decide⟩) rfl rfl (fun ad9 ow Z9 v9 H locs hq hd => ?_)
  obtain ⟨a, rfl, rfl, rfl⟩ := hq
  change W _ _ _ _ _ _ _ _ _ _ _ _ _ _ _ (F0 m 40 ls [.ref a, .ref (ad 3 i)])
  refine lv_dup_x1 hx hb d_AL_grow1_40 rfl rfl ?_
  refine zputE (ad := upA ad 13 5 a) (Z := sr Z 5 (some (rfA (gO G) 22 (elemF ad Z i)))) (r := 5) (i := i) (n := 22) (f := elemF ad Z i) (rest := [.ref a]) hC hd (show i < xn Z 0 3 from hi) (show 5 < xn Z 0 13 by omega) (show i < xn Z 0 4 from hi4) rfl rfl (by decide) q_47 d_AL_grow1_41 (fun ow H locs hd => ?_)
  rw [sr_back hraw] at hd
  exact zga hC hd hr (Or.inr ⟨_, rfl⟩) hlk d_AL_grow1_44 ⟨a, a, rfl, rfl, rfl⟩ (Nat.le_of_ble_eq_true rfl) (Nat.le_of_ble_eq_true rfl)
set_option maxHeartbeats 4000000 in
theorem c_grow1_22 (l : Launch) (G : Gt) (ad : Nat → Nat → Nat) (ow : Nat → Nat × Nat) (Z : Zt) (i : Nat) (hi4 : i < xn Z 0 4) (h13 : 50 ≤ xn Z 0 13) (hcap : xn Z 3 i = 22) (hLI : ∀ j, 22 ≤ j → xc Z 4 i j = 0) (hel : ∀ j, j < 22 → 1 ≤ xc Z 4 i j ∧ xc Z 4 i j ≤ xn Z 0 1) (hi : i < xn Z 0 3) (hraw : xr Z 5 = none) : Met l y_AL_grow1 w_AL_grow1 ({ frames := 3, cells := 1, slots := 33, locals := 104 }) (zPc G ad ow Z [.ref (ad 3 i), .int 23]) (Qg G (fun ad9 _ Z9 v9 => ∃ a b, upA (upA ad 13 5 b) 4 i a = ad9 ∧ sn Z 3 i 33 = Z9 ∧ some (.ref a) = v9)) 1 33 (zA G) := by
  refine zopen (cc := b_AL_grow1) (maxL := 4) (ret := (some (FieldType.array (FieldType.object "java/lang/Object")))) (by decide) rfl (Nat.le_of_ble_eq_true rfl) ?_
  intro p e s m below meth c ls hC hr hlk hnm hd hl
  have hC : Cx G p c m s _ "java/util/ArrayList" b_AL_grow1 4 := hC
  have hl : lv_has ls 4 [(0, .ref (ad 3 i)), (1, .int 23)] := hl
  have hx := hC.1
  have hb := hC.2.1
  refine lv_aload_n hx hb d_AL_grow1_0 rfl (lv_at hl 0 rfl) ?_
  refine zget hC hd (e_list hi) rfl i_AL 1 (by decide) q_47 (Or.inl rfl) (v := .ref (ad 4 i)) (congrArg (fun q => some (Value.ref q)) (if_neg (show ¬ xn Z 3 i = 0 by omega))) d_AL_grow1_1 ?_
  have he4 : ent G ad Z 4 i = some (rfA (gO G) 22 (elemF ad Z i)) := by have h9 := e_elem (G := G) (ad := ad) (Z := Z) hi4 (show xn Z 3 i ≠ 0 by omega); rw [hcap] at h9; exact h9
  refine zalen hC hd he4 3 rfl (v := 22) rfl d_AL_grow1_4 ?_
  refine lv_istore_n (lv' := [(2, .int 22), (0, .ref (ad 3 i)), (1, .int 23)]) hx hb d_AL_grow1_5 rfl hl (by decide) rfl (fun ls hl => ?_)
  refine lv_iload_n hx hb d_AL_grow1_6 rfl (lv_at hl 0 rfl) ?_
  refine lv_if_gt (tgt := 20) hx hb d_AL_grow1_7 (by decide) (fun _ => ?_) (fun c => absurd c (by decide))
  refine lv_iload_n hx hb d_AL_grow1_20 rfl (lv_at hl 0 rfl) ?_
  refine lv_iload_n hx hb d_AL_grow1_21 rfl (lv_at hl 2 rfl) ?_
  refine lv_iload_n hx hb d_AL_grow1_22 rfl (lv_at hl 0 rfl) ?_
  refine zsubL (r := 1) (by decide) hx hb d_AL_grow1_23 ?_
  refine lv_iload_n hx hb d_AL_grow1_24 rfl (lv_at hl 0 rfl) ?_
  refine lv_iconst (v := 1) hx hb d_AL_grow1_25 (by decide) ?_
  refine zshrL (r := 11) (by decide) hx hb d_AL_grow1_26 ?_
  refine zb_i hd (zrunS (n := 3) (rest := []) hC hd (c_newLength_22 l G ad ow Z) q_192 q_193 q_8 q_194 rfl rfl rfl ⟨by decide, by decide, by decide +kernel⟩ ⟨by decide, by decide⟩ rfl hl.1 (Nat.le_of_ble_eq_true rfl) d_AL_grow1_27 ⟨by decide, by decide⟩) (fun H locs hd => ?_)
  refine lv_istore_n (lv' := [(3, .int 33), (2, .int 22), (0, .ref (ad 3 i)), (1, .int 23)]) hx hb d_AL_grow1_30 rfl hl (by decide) rfl (fun ls hl => ?_)
  refine lv_aload_n hx hb d_AL_grow1_31 rfl (lv_at hl 2 rfl) ?_
  refine lv_aload_n hx hb d_AL_grow1_32 rfl (lv_at hl 2 rfl) ?_
  refine zget hC hd (e_list hi) rfl i_AL 1 (by decide) q_47 (Or.inl rfl) (v := .ref (ad 4 i)) (congrArg (fun q => some (Value.ref q)) (if_neg (show ¬ xn Z 3 i = 0 by omega))) d_AL_grow1_33 ?_
  refine lv_iload_n hx hb d_AL_grow1_36 rfl (lv_at hl 0 rfl) ?_
  refine zbackg hd (zrunS (n := 2) (rest := [.ref (ad 3 i)]) hC hd (c_copyOf2_22 l G ad ow Z i hi4 h13 hcap hLI hel) q_202 q_203 q_10 q_204 rfl rfl rfl ⟨by decide, by decide, by decide +kernel⟩ ⟨by decide, by decide⟩ rfl hl.1 (Nat.le_of_ble_eq_true rfl) d_AL_grow1_37 ⟨by decide, by decide⟩) rfl rfl (fun ad9 ow Z9 v9 H locs hq hd => ?_)
  obtain ⟨a, rfl, rfl, rfl⟩ := hq
  change W _ _ _ _ _ _ _ _ _ _ _ _ _ _ _ (F0 m 40 ls [.ref a, .ref (ad 3 i)])
  refine lv_dup_x1 hx hb d_AL_grow1_40 rfl rfl ?_
  refine zputE (ad := upA ad 13 5 a) (Z := sr Z 5 (some (rfA (gO G) 33 (elemF ad Z i)))) (r := 5) (i := i) (n := 33) (f := elemF ad Z i) (rest := [.ref a]) hC hd (show i < xn Z 0 3 from hi) (show 5 < xn Z 0 13 by omega) (show i < xn Z 0 4 from hi4) rfl rfl (by decide) q_47 d_AL_grow1_41 (fun ow H locs hd => ?_)
  rw [sr_back hraw] at hd
  exact zga hC hd hr (Or.inr ⟨_, rfl⟩) hlk d_AL_grow1_44 ⟨a, a, rfl, rfl, rfl⟩ (Nat.le_of_ble_eq_true rfl) (Nat.le_of_ble_eq_true rfl)
set_option maxHeartbeats 4000000 in
theorem c_grow1_33 (l : Launch) (G : Gt) (ad : Nat → Nat → Nat) (ow : Nat → Nat × Nat) (Z : Zt) (i : Nat) (hi4 : i < xn Z 0 4) (h13 : 50 ≤ xn Z 0 13) (hcap : xn Z 3 i = 33) (hLI : ∀ j, 33 ≤ j → xc Z 4 i j = 0) (hel : ∀ j, j < 33 → 1 ≤ xc Z 4 i j ∧ xc Z 4 i j ≤ xn Z 0 1) (hi : i < xn Z 0 3) (hraw : xr Z 5 = none) : Met l y_AL_grow1 w_AL_grow1 ({ frames := 3, cells := 1, slots := 49, locals := 104 }) (zPc G ad ow Z [.ref (ad 3 i), .int 34]) (Qg G (fun ad9 _ Z9 v9 => ∃ a b, upA (upA ad 13 5 b) 4 i a = ad9 ∧ sn Z 3 i 49 = Z9 ∧ some (.ref a) = v9)) 1 49 (zA G) := by
  refine zopen (cc := b_AL_grow1) (maxL := 4) (ret := (some (FieldType.array (FieldType.object "java/lang/Object")))) (by decide) rfl (Nat.le_of_ble_eq_true rfl) ?_
  intro p e s m below meth c ls hC hr hlk hnm hd hl
  have hC : Cx G p c m s _ "java/util/ArrayList" b_AL_grow1 4 := hC
  have hl : lv_has ls 4 [(0, .ref (ad 3 i)), (1, .int 34)] := hl
  have hx := hC.1
  have hb := hC.2.1
  refine lv_aload_n hx hb d_AL_grow1_0 rfl (lv_at hl 0 rfl) ?_
  refine zget hC hd (e_list hi) rfl i_AL 1 (by decide) q_47 (Or.inl rfl) (v := .ref (ad 4 i)) (congrArg (fun q => some (Value.ref q)) (if_neg (show ¬ xn Z 3 i = 0 by omega))) d_AL_grow1_1 ?_
  have he4 : ent G ad Z 4 i = some (rfA (gO G) 33 (elemF ad Z i)) := by have h9 := e_elem (G := G) (ad := ad) (Z := Z) hi4 (show xn Z 3 i ≠ 0 by omega); rw [hcap] at h9; exact h9
  refine zalen hC hd he4 3 rfl (v := 33) rfl d_AL_grow1_4 ?_
  refine lv_istore_n (lv' := [(2, .int 33), (0, .ref (ad 3 i)), (1, .int 34)]) hx hb d_AL_grow1_5 rfl hl (by decide) rfl (fun ls hl => ?_)
  refine lv_iload_n hx hb d_AL_grow1_6 rfl (lv_at hl 0 rfl) ?_
  refine lv_if_gt (tgt := 20) hx hb d_AL_grow1_7 (by decide) (fun _ => ?_) (fun c => absurd c (by decide))
  refine lv_iload_n hx hb d_AL_grow1_20 rfl (lv_at hl 0 rfl) ?_
  refine lv_iload_n hx hb d_AL_grow1_21 rfl (lv_at hl 2 rfl) ?_
  refine lv_iload_n hx hb d_AL_grow1_22 rfl (lv_at hl 0 rfl) ?_
  refine zsubL (r := 1) (by decide) hx hb d_AL_grow1_23 ?_
  refine lv_iload_n hx hb d_AL_grow1_24 rfl (lv_at hl 0 rfl) ?_
  refine lv_iconst (v := 1) hx hb d_AL_grow1_25 (by decide) ?_
  refine zshrL (r := 16) (by decide) hx hb d_AL_grow1_26 ?_
  refine zb_i hd (zrunS (n := 3) (rest := []) hC hd (c_newLength_33 l G ad ow Z) q_192 q_193 q_8 q_194 rfl rfl rfl ⟨by decide, by decide, by decide +kernel⟩ ⟨by decide, by decide⟩ rfl hl.1 (Nat.le_of_ble_eq_true rfl) d_AL_grow1_27 ⟨by decide, by decide⟩) (fun H locs hd => ?_)
  refine lv_istore_n (lv' := [(3, .int 49), (2, .int 33), (0, .ref (ad 3 i)), (1, .int 34)]) hx hb d_AL_grow1_30 rfl hl (by decide) rfl (fun ls hl => ?_)
  refine lv_aload_n hx hb d_AL_grow1_31 rfl (lv_at hl 2 rfl) ?_
  refine lv_aload_n hx hb d_AL_grow1_32 rfl (lv_at hl 2 rfl) ?_
  refine zget hC hd (e_list hi) rfl i_AL 1 (by decide) q_47 (Or.inl rfl) (v := .ref (ad 4 i)) (congrArg (fun q => some (Value.ref q)) (if_neg (show ¬ xn Z 3 i = 0 by omega))) d_AL_grow1_33 ?_
  refine lv_iload_n hx hb d_AL_grow1_36 rfl (lv_at hl 0 rfl) ?_
  refine zbackg hd (zrunS (n := 2) (rest := [.ref (ad 3 i)]) hC hd (c_copyOf2_33 l G ad ow Z i hi4 h13 hcap hLI hel) q_202 q_203 q_10 q_204 rfl rfl rfl ⟨by decide, by decide, by decide +kernel⟩ ⟨by decide, by decide⟩ rfl hl.1 (Nat.le_of_ble_eq_true rfl) d_AL_grow1_37 ⟨by decide, by decide⟩) rfl rfl (fun ad9 ow Z9 v9 H locs hq hd => ?_)
  obtain ⟨a, rfl, rfl, rfl⟩ := hq
  change W _ _ _ _ _ _ _ _ _ _ _ _ _ _ _ (F0 m 40 ls [.ref a, .ref (ad 3 i)])
  refine lv_dup_x1 hx hb d_AL_grow1_40 rfl rfl ?_
  refine zputE (ad := upA ad 13 5 a) (Z := sr Z 5 (some (rfA (gO G) 49 (elemF ad Z i)))) (r := 5) (i := i) (n := 49) (f := elemF ad Z i) (rest := [.ref a]) hC hd (show i < xn Z 0 3 from hi) (show 5 < xn Z 0 13 by omega) (show i < xn Z 0 4 from hi4) rfl rfl (by decide) q_47 d_AL_grow1_41 (fun ow H locs hd => ?_)
  rw [sr_back hraw] at hd
  exact zga hC hd hr (Or.inr ⟨_, rfl⟩) hlk d_AL_grow1_44 ⟨a, a, rfl, rfl, rfl⟩ (Nat.le_of_ble_eq_true rfl) (Nat.le_of_ble_eq_true rfl)
set_option maxHeartbeats 4000000 in
theorem c_grow0_0 (l : Launch) (G : Gt) (ad : Nat → Nat → Nat) (ow : Nat → Nat × Nat) (Z : Zt) (i : Nat) (hi4 : i < xn Z 0 4) (h13 : 50 ≤ xn Z 0 13) (hcap : xn Z 3 i = 0) (hLI : ∀ j, 0 ≤ j → xc Z 4 i j = 0) (hel : ∀ j, j < 0 → 1 ≤ xc Z 4 i j ∧ xc Z 4 i j ≤ xn Z 0 1) (hi : i < xn Z 0 3) (hraw : xr Z 5 = none) (hsz : xn Z 2 i = 0) : Met l y_AL_grow0 w_AL_grow0 ({ frames := 4, cells := 1, slots := 10, locals := 127 }) (zPc G ad ow Z [.ref (ad 3 i)]) (Qg G (fun ad9 _ Z9 v9 => ∃ a b, upA (upA ad 13 5 b) 4 i a = ad9 ∧ sn Z 3 i 10 = Z9 ∧ some (.ref a) = v9)) 1 10 (zA G) := by
  refine zopen (cc := b_AL_grow0) (maxL := 1) (ret := (some (FieldType.array (FieldType.object "java/lang/Object")))) (by decide) rfl (Nat.le_of_ble_eq_true rfl) ?_
  intro p e s m below meth c ls hC hr hlk hnm hd hl
  have hC : Cx G p c m s _ "java/util/ArrayList" b_AL_grow0 1 := hC
  have hl : lv_has ls 1 [(0, .ref (ad 3 i))] := hl
  have hx := hC.1
  have hb := hC.2.1
  refine lv_aload_n hx hb d_AL_grow0_0 rfl (lv_at hl 0 rfl) ?_
  refine lv_aload_n hx hb d_AL_grow0_1 rfl (lv_at hl 0 rfl) ?_
  refine zget hC hd (e_list hi) rfl i_AL 2 (by decide) q_48 (Or.inl rfl) (v := .int (nI (xn Z 2 i))) rfl d_AL_grow0_2 ?_
  refine lv_iconst (v := 1) hx hb d_AL_grow0_5 (by decide) ?_
  rw [show nI (xn Z 2 i) = (0 : Int32) by rw [hsz]; rfl]
  refine zaddL (r := 1) (by decide) hx hb d_AL_grow0_6 ?_
  refine zbackg hd (zrunV (n := 1) (rest := []) hC hd (e_list hi) rfl (c_grow1_0 l G ad ow Z i hi4 h13 hcap hLI hel hi hraw) q_188 q_190 qp_2 q_4 q_191 rfl rfl rfl (by decide +kernel) ⟨by decide, by decide⟩ rfl hl.1 (Nat.le_of_ble_eq_true rfl) d_AL_grow0_7 ⟨by decide, by decide⟩) rfl rfl (fun ad9 ow Z9 v9 H locs hq hd => ?_)
  obtain ⟨a, b, had, rfl, rfl⟩ := hq
  exact zga hC hd hr (Or.inr ⟨_, rfl⟩) hlk d_AL_grow0_10 ⟨a, b, had, rfl, rfl⟩ (Nat.le_of_ble_eq_true rfl) (Nat.le_of_ble_eq_true rfl)
set_option maxHeartbeats 4000000 in
theorem c_grow0_10 (l : Launch) (G : Gt) (ad : Nat → Nat → Nat) (ow : Nat → Nat × Nat) (Z : Zt) (i : Nat) (hi4 : i < xn Z 0 4) (h13 : 50 ≤ xn Z 0 13) (hcap : xn Z 3 i = 10) (hLI : ∀ j, 10 ≤ j → xc Z 4 i j = 0) (hel : ∀ j, j < 10 → 1 ≤ xc Z 4 i j ∧ xc Z 4 i j ≤ xn Z 0 1) (hi : i < xn Z 0 3) (hraw : xr Z 5 = none) (hsz : xn Z 2 i = 10) : Met l y_AL_grow0 w_AL_grow0 ({ frames := 4, cells := 1, slots := 15, locals := 127 }) (zPc G ad ow Z [.ref (ad 3 i)]) (Qg G (fun ad9 _ Z9 v9 => ∃ a b, upA (upA ad 13 5 b) 4 i a = ad9 ∧ sn Z 3 i 15 = Z9 ∧ some (.ref a) = v9)) 1 15 (zA G) := by
  refine zopen (cc := b_AL_grow0) (maxL := 1) (ret := (some (FieldType.array (FieldType.object "java/lang/Object")))) (by decide) rfl (Nat.le_of_ble_eq_true rfl) ?_
  intro p e s m below meth c ls hC hr hlk hnm hd hl
  have hC : Cx G p c m s _ "java/util/ArrayList" b_AL_grow0 1 := hC
  have hl : lv_has ls 1 [(0, .ref (ad 3 i))] := hl
  have hx := hC.1
  have hb := hC.2.1
  refine lv_aload_n hx hb d_AL_grow0_0 rfl (lv_at hl 0 rfl) ?_
  refine lv_aload_n hx hb d_AL_grow0_1 rfl (lv_at hl 0 rfl) ?_
  refine zget hC hd (e_list hi) rfl i_AL 2 (by decide) q_48 (Or.inl rfl) (v := .int (nI (xn Z 2 i))) rfl d_AL_grow0_2 ?_
  refine lv_iconst (v := 1) hx hb d_AL_grow0_5 (by decide) ?_
  rw [show nI (xn Z 2 i) = (10 : Int32) by rw [hsz]; rfl]
  refine zaddL (r := 11) (by decide) hx hb d_AL_grow0_6 ?_
  refine zbackg hd (zrunV (n := 1) (rest := []) hC hd (e_list hi) rfl (c_grow1_10 l G ad ow Z i hi4 h13 hcap hLI hel hi hraw) q_188 q_190 qp_2 q_4 q_191 rfl rfl rfl (by decide +kernel) ⟨by decide, by decide⟩ rfl hl.1 (Nat.le_of_ble_eq_true rfl) d_AL_grow0_7 ⟨by decide, by decide⟩) rfl rfl (fun ad9 ow Z9 v9 H locs hq hd => ?_)
  obtain ⟨a, b, had, rfl, rfl⟩ := hq
  exact zga hC hd hr (Or.inr ⟨_, rfl⟩) hlk d_AL_grow0_10 ⟨a, b, had, rfl, rfl⟩ (Nat.le_of_ble_eq_true rfl) (Nat.le_of_ble_eq_true rfl)
set_option maxHeartbeats 4000000 in
theorem c_grow0_15 (l : Launch) (G : Gt) (ad : Nat → Nat → Nat) (ow : Nat → Nat × Nat) (Z : Zt) (i : Nat) (hi4 : i < xn Z 0 4) (h13 : 50 ≤ xn Z 0 13) (hcap : xn Z 3 i = 15) (hLI : ∀ j, 15 ≤ j → xc Z 4 i j = 0) (hel : ∀ j, j < 15 → 1 ≤ xc Z 4 i j ∧ xc Z 4 i j ≤ xn Z 0 1) (hi : i < xn Z 0 3) (hraw : xr Z 5 = none) (hsz : xn Z 2 i = 15) : Met l y_AL_grow0 w_AL_grow0 ({ frames := 4, cells := 1, slots := 22, locals := 127 }) (zPc G ad ow Z [.ref (ad 3 i)]) (Qg G (fun ad9 _ Z9 v9 => ∃ a b, upA (upA ad 13 5 b) 4 i a = ad9 ∧ sn Z 3 i 22 = Z9 ∧ some (.ref a) = v9)) 1 22 (zA G) := by
  refine zopen (cc := b_AL_grow0) (maxL := 1) (ret := (some (FieldType.array (FieldType.object "java/lang/Object")))) (by decide) rfl (Nat.le_of_ble_eq_true rfl) ?_
  intro p e s m below meth c ls hC hr hlk hnm hd hl
  have hC : Cx G p c m s _ "java/util/ArrayList" b_AL_grow0 1 := hC
  have hl : lv_has ls 1 [(0, .ref (ad 3 i))] := hl
  have hx := hC.1
  have hb := hC.2.1
  refine lv_aload_n hx hb d_AL_grow0_0 rfl (lv_at hl 0 rfl) ?_
  refine lv_aload_n hx hb d_AL_grow0_1 rfl (lv_at hl 0 rfl) ?_
  refine zget hC hd (e_list hi) rfl i_AL 2 (by decide) q_48 (Or.inl rfl) (v := .int (nI (xn Z 2 i))) rfl d_AL_grow0_2 ?_
  refine lv_iconst (v := 1) hx hb d_AL_grow0_5 (by decide) ?_
  rw [show nI (xn Z 2 i) = (15 : Int32) by rw [hsz]; rfl]
  refine zaddL (r := 16) (by decide) hx hb d_AL_grow0_6 ?_
  refine zbackg hd (zrunV (n := 1) (rest := []) hC hd (e_list hi) rfl (c_grow1_15 l G ad ow Z i hi4 h13 hcap hLI hel hi hraw) q_188 q_190 qp_2 q_4 q_191 rfl rfl rfl (by decide +kernel) ⟨by decide, by decide⟩ rfl hl.1 (Nat.le_of_ble_eq_true rfl) d_AL_grow0_7 ⟨by decide, by decide⟩) rfl rfl (fun ad9 ow Z9 v9 H locs hq hd => ?_)
  obtain ⟨a, b, had, rfl, rfl⟩ := hq
  exact zga hC hd hr (Or.inr ⟨_, rfl⟩) hlk d_AL_grow0_10 ⟨a, b, had, rfl, rfl⟩ (Nat.le_of_ble_eq_true rfl) (Nat.le_of_ble_eq_true rfl)
set_option maxHeartbeats 4000000 in
theorem c_grow0_22 (l : Launch) (G : Gt) (ad : Nat → Nat → Nat) (ow : Nat → Nat × Nat) (Z : Zt) (i : Nat) (hi4 : i < xn Z 0 4) (h13 : 50 ≤ xn Z 0 13) (hcap : xn Z 3 i = 22) (hLI : ∀ j, 22 ≤ j → xc Z 4 i j = 0) (hel : ∀ j, j < 22 → 1 ≤ xc Z 4 i j ∧ xc Z 4 i j ≤ xn Z 0 1) (hi : i < xn Z 0 3) (hraw : xr Z 5 = none) (hsz : xn Z 2 i = 22) : Met l y_AL_grow0 w_AL_grow0 ({ frames := 4, cells := 1, slots := 33, locals := 127 }) (zPc G ad ow Z [.ref (ad 3 i)]) (Qg G (fun ad9 _ Z9 v9 => ∃ a b, upA (upA ad 13 5 b) 4 i a = ad9 ∧ sn Z 3 i 33 = Z9 ∧ some (.ref a) = v9)) 1 33 (zA G) := by
  refine zopen (cc := b_AL_grow0) (maxL := 1) (ret := (some (FieldType.array (FieldType.object "java/lang/Object")))) (by decide) rfl (Nat.le_of_ble_eq_true rfl) ?_
  intro p e s m below meth c ls hC hr hlk hnm hd hl
  have hC : Cx G p c m s _ "java/util/ArrayList" b_AL_grow0 1 := hC
  have hl : lv_has ls 1 [(0, .ref (ad 3 i))] := hl
  have hx := hC.1
  have hb := hC.2.1
  refine lv_aload_n hx hb d_AL_grow0_0 rfl (lv_at hl 0 rfl) ?_
  refine lv_aload_n hx hb d_AL_grow0_1 rfl (lv_at hl 0 rfl) ?_
  refine zget hC hd (e_list hi) rfl i_AL 2 (by decide) q_48 (Or.inl rfl) (v := .int (nI (xn Z 2 i))) rfl d_AL_grow0_2 ?_
  refine lv_iconst (v := 1) hx hb d_AL_grow0_5 (by decide) ?_
  rw [show nI (xn Z 2 i) = (22 : Int32) by rw [hsz]; rfl]
  refine zaddL (r := 23) (by decide) hx hb d_AL_grow0_6 ?_
  refine zbackg hd (zrunV (n := 1) (rest := []) hC hd (e_list hi) rfl (c_grow1_22 l G ad ow Z i hi4 h13 hcap hLI hel hi hraw) q_188 q_190 qp_2 q_4 q_191 rfl rfl rfl (by decide +kernel) ⟨by decide, by decide⟩ rfl hl.1 (Nat.le_of_ble_eq_true rfl) d_AL_grow0_7 ⟨by decide, by decide⟩) rfl rfl (fun ad9 ow Z9 v9 H locs hq hd => ?_)
  obtain ⟨a, b, had, rfl, rfl⟩ := hq
  exact zga hC hd hr (Or.inr ⟨_, rfl⟩) hlk d_AL_grow0_10 ⟨a, b, had, rfl, rfl⟩ (Nat.le_of_ble_eq_true rfl) (Nat.le_of_ble_eq_true rfl)
set_option maxHeartbeats 4000000 in
theorem c_grow0_33 (l : Launch) (G : Gt) (ad : Nat → Nat → Nat) (ow : Nat → Nat × Nat) (Z : Zt) (i : Nat) (hi4 : i < xn Z 0 4) (h13 : 50 ≤ xn Z 0 13) (hcap : xn Z 3 i = 33) (hLI : ∀ j, 33 ≤ j → xc Z 4 i j = 0) (hel : ∀ j, j < 33 → 1 ≤ xc Z 4 i j ∧ xc Z 4 i j ≤ xn Z 0 1) (hi : i < xn Z 0 3) (hraw : xr Z 5 = none) (hsz : xn Z 2 i = 33) : Met l y_AL_grow0 w_AL_grow0 ({ frames := 4, cells := 1, slots := 49, locals := 127 }) (zPc G ad ow Z [.ref (ad 3 i)]) (Qg G (fun ad9 _ Z9 v9 => ∃ a b, upA (upA ad 13 5 b) 4 i a = ad9 ∧ sn Z 3 i 49 = Z9 ∧ some (.ref a) = v9)) 1 49 (zA G) := by
  refine zopen (cc := b_AL_grow0) (maxL := 1) (ret := (some (FieldType.array (FieldType.object "java/lang/Object")))) (by decide) rfl (Nat.le_of_ble_eq_true rfl) ?_
  intro p e s m below meth c ls hC hr hlk hnm hd hl
  have hC : Cx G p c m s _ "java/util/ArrayList" b_AL_grow0 1 := hC
  have hl : lv_has ls 1 [(0, .ref (ad 3 i))] := hl
  have hx := hC.1
  have hb := hC.2.1
  refine lv_aload_n hx hb d_AL_grow0_0 rfl (lv_at hl 0 rfl) ?_
  refine lv_aload_n hx hb d_AL_grow0_1 rfl (lv_at hl 0 rfl) ?_
  refine zget hC hd (e_list hi) rfl i_AL 2 (by decide) q_48 (Or.inl rfl) (v := .int (nI (xn Z 2 i))) rfl d_AL_grow0_2 ?_
  refine lv_iconst (v := 1) hx hb d_AL_grow0_5 (by decide) ?_
  rw [show nI (xn Z 2 i) = (33 : Int32) by rw [hsz]; rfl]
  refine zaddL (r := 34) (by decide) hx hb d_AL_grow0_6 ?_
  refine zbackg hd (zrunV (n := 1) (rest := []) hC hd (e_list hi) rfl (c_grow1_33 l G ad ow Z i hi4 h13 hcap hLI hel hi hraw) q_188 q_190 qp_2 q_4 q_191 rfl rfl rfl (by decide +kernel) ⟨by decide, by decide⟩ rfl hl.1 (Nat.le_of_ble_eq_true rfl) d_AL_grow0_7 ⟨by decide, by decide⟩) rfl rfl (fun ad9 ow Z9 v9 H locs hq hd => ?_)
  obtain ⟨a, b, had, rfl, rfl⟩ := hq
  exact zga hC hd hr (Or.inr ⟨_, rfl⟩) hlk d_AL_grow0_10 ⟨a, b, had, rfl, rfl⟩ (Nat.le_of_ble_eq_true rfl) (Nat.le_of_ble_eq_true rfl)
