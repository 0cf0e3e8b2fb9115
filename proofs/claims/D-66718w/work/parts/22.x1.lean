theorem zbool {x : Int32} (h : x = 0 ∨ x = 1) : narrow .boolean (.int x) = .int x := by rcases h with rfl | rfl <;> decide
theorem zboolf {x : Int32} (h : x = 0 ∨ x = 1) : fits .boolean (.int x) = true := by rcases h with rfl | rfl <;> decide
def x_begin0 (Z : Zt) (k n : Nat) : Zt := si (sl (si (si Z 10 k (nI n)) 11 k 0) 2 k 0) 12 k 0
def x_begin (Z : Zt) (k n : Nat) : Zt := if xn Z 1 k = 2 then (si (x_begin0 Z k n) 13 k 0) else if xn Z 1 k = 5 then (si (x_begin0 Z k n) 12 k (if n = 0 then 1 else 0)) else (x_begin0 Z k n)
def x_next (Z : Zt) (k : Nat) : Int32 := if xn Z 1 k = 2 then (if xi Z 13 k = 0 then (if xi Z 10 k ≤ 0 then -1 else 0) else xi Z 11 k) else (if xi Z 10 k ≤ xi Z 11 k then -1 else xi Z 11 k)
def x_qv (Z : Zt) (k : Nat) (x : Int64) : Int64 := if x = 0 then 0 else if x = -1 then -(xl Z 2 k) else xl Z 2 k / x
def x_with (Z : Zt) (k : Nat) (x : Int64) : Zt := if xn Z 1 k = 1 then (if x = 0 then sl Z 2 k x else si (sl Z 2 k x) 10 k (xi Z 11 k)) else if xn Z 1 k = 2 then (sl Z 2 k x) else if xn Z 1 k = 3 then (if xi Z 11 k = 0 then sl Z 2 k x else sl (si Z 12 k (if x = 0 then 1 else 0)) 2 k (x_qv Z k x)) else if xn Z 1 k = 5 then (sl Z 2 k (if xi Z 11 k = 0 then x else if x ≤ xl Z 2 k then xl Z 2 k else x)) else (sl Z 2 k (xl Z 2 k + x))
def x_chR (Z : Zt) (k : Nat) (x : Int64) : Int64 := x - x / (xi Z 10 k - 1).toInt64 * (xi Z 10 k - 1).toInt64
def x_chP (Z : Zt) (k : Nat) (x : Int64) : Int32 := 1 + (if 0 ≤ x_chR Z k x then x_chR Z k x else x_chR Z k x + (xi Z 10 k).toInt64 - 1).toInt32
def x_takeC (Z : Zt) (k : Nat) (x : Int64) : Zt := if xi Z 13 k = 0 then (if xi Z 10 k = 1 then si (si (sl Z 2 k x) 13 k 1) 11 k (-1) else si (si (sl Z 2 k x) 13 k 1) 11 k (x_chP Z k x)) else si (si (sl Z 2 k x) 13 k 1) 11 k (-1)
def x_take (Z : Zt) (k : Nat) (x : Int64) : Zt := if xn Z 1 k = 2 then (x_takeC Z k x) else (si (x_with Z k x) 11 k (xi (x_with Z k x) 11 k + 1))
def x_result (Z : Zt) (k : Nat) : Int64 := if xn Z 1 k = 4 then (xl Z 2 k &&& 1) else (xl Z 2 k)

set_option maxHeartbeats 4000000 in
theorem c_Fun_begin0 (l : Launch) (G : Gt) (ad : Nat → Nat → Nat) (ow : Nat → Nat × Nat) (Z : Zt) (k : Nat) (hq : k < xn Z 0 2) (hk : xn Z 1 k = 0) (n : Nat) : Met l y_Fun_begin w_Fun_begin ({ frames := 0, cells := 0, slots := 0, locals := 0 }) (zPc G ad ow Z [.ref (ad 2 k), .int (nI n)]) (Qd G ad ow (x_begin0 Z k n) (none)) 0 0 (zA G) := by
  refine zopen (cc := b_Fun_begin) (maxL := 2) (ret := none) (by decide) rfl (Nat.le_of_ble_eq_true rfl) ?_
  intro p e s m below meth c ls hC hr hlk hnm hd hl
  have hC : Cx G p c m s _ "KeyGraph$Function" b_Fun_begin 2 := hC
  have hl : lv_has ls 2 [(0, .ref (ad 2 k)), (1, .int (nI n))] := hl
  have hx := hC.1
  have hb := hC.2.1
  refine lv_aload_n hx hb d_Fun_begin_0 rfl (lv_at hl 0 rfl) ?_
  refine lv_iload_n hx hb d_Fun_begin_1 rfl (lv_at hl 1 rfl) ?_
  refine zput (Z' := (si Z 10 k (nI n))) (v := .int (nI n)) hC hd (e_f0 hq hk) rfl i_Sum t_Sum t_Sum_ok n_Sum 0 (by decide) q_252 (Or.inl rfl) rfl rfl rfl (Nat.le_of_ble_eq_true rfl) (u_f0_many hq hk) d_Fun_begin_2 (fun H locs hd => ?_)
  refine lv_aload_n hx hb d_Fun_begin_5 rfl (lv_at hl 0 rfl) ?_
  refine lv_iconst (v := 0) hx hb d_Fun_begin_6 (by decide) ?_
  refine zput (Z' := (si (si Z 10 k (nI n)) 11 k 0)) (v := .int 0) hC hd (e_f0 hq hk) rfl i_Sum t_Sum t_Sum_ok n_Sum 1 (by decide) q_259 (Or.inl rfl) rfl rfl rfl (Nat.le_of_ble_eq_true rfl) (u_f0_place hq hk) d_Fun_begin_7 (fun H locs hd => ?_)
  refine lv_aload_n hx hb d_Fun_begin_10 rfl (lv_at hl 0 rfl) ?_
  refine lv_lconst (v := 0) hx hb d_Fun_begin_11 (by decide) ?_
  refine zput (Z' := (sl (si (si Z 10 k (nI n)) 11 k 0) 2 k 0)) (v := .long 0) hC hd (e_f0 hq hk) rfl i_Sum t_Sum t_Sum_ok n_Sum 2 (by decide) q_272 (Or.inl rfl) rfl rfl rfl (Nat.le_of_ble_eq_true rfl) (u_f0_fv hq hk) d_Fun_begin_12 (fun H locs hd => ?_)
  refine lv_aload_n hx hb d_Fun_begin_15 rfl (lv_at hl 0 rfl) ?_
  refine lv_iconst (v := 0) hx hb d_Fun_begin_16 (by decide) ?_
  refine zput (Z' := (si (sl (si (si Z 10 k (nI n)) 11 k 0) 2 k 0) 12 k 0)) (v := .int 0) hC hd (e_f0 hq hk) rfl i_Sum t_Sum t_Sum_ok n_Sum 3 (by decide) q_279 (Or.inl rfl) rfl (zbool (by decide)) (zboolf (by decide)) (Nat.le_of_ble_eq_true rfl) (u_f0_failed hq hk) d_Fun_begin_17 (fun H locs hd => ?_)
  exact zfv hC hd hr hlk d_Fun_begin_20 rfl
set_option maxHeartbeats 4000000 in
theorem c_Fun_begin1 (l : Launch) (G : Gt) (ad : Nat → Nat → Nat) (ow : Nat → Nat × Nat) (Z : Zt) (k : Nat) (hq : k < xn Z 0 2) (hk : xn Z 1 k = 1) (n : Nat) : Met l y_Fun_begin w_Fun_begin ({ frames := 0, cells := 0, slots := 0, locals := 0 }) (zPc G ad ow Z [.ref (ad 2 k), .int (nI n)]) (Qd G ad ow (x_begin0 Z k n) (none)) 0 0 (zA G) := by
  refine zopen (cc := b_Fun_begin) (maxL := 2) (ret := none) (by decide) rfl (Nat.le_of_ble_eq_true rfl) ?_
  intro p e s m below meth c ls hC hr hlk hnm hd hl
  have hC : Cx G p c m s _ "KeyGraph$Function" b_Fun_begin 2 := hC
  have hl : lv_has ls 2 [(0, .ref (ad 2 k)), (1, .int (nI n))] := hl
  have hx := hC.1
  have hb := hC.2.1
  refine lv_aload_n hx hb d_Fun_begin_0 rfl (lv_at hl 0 rfl) ?_
  refine lv_iload_n hx hb d_Fun_begin_1 rfl (lv_at hl 1 rfl) ?_
  refine zput (Z' := (si Z 10 k (nI n))) (v := .int (nI n)) hC hd (e_f1 hq hk) rfl i_First t_First t_First_ok n_First 0 (by decide) q_252 (Or.inl rfl) rfl rfl rfl (Nat.le_of_ble_eq_true rfl) (u_f1_many hq hk) d_Fun_begin_2 (fun H locs hd => ?_)
  refine lv_aload_n hx hb d_Fun_begin_5 rfl (lv_at hl 0 rfl) ?_
  refine lv_iconst (v := 0) hx hb d_Fun_begin_6 (by decide) ?_
  refine zput (Z' := (si (si Z 10 k (nI n)) 11 k 0)) (v := .int 0) hC hd (e_f1 hq hk) rfl i_First t_First t_First_ok n_First 1 (by decide) q_259 (Or.inl rfl) rfl rfl rfl (Nat.le_of_ble_eq_true rfl) (u_f1_place hq hk) d_Fun_begin_7 (fun H locs hd => ?_)
  refine lv_aload_n hx hb d_Fun_begin_10 rfl (lv_at hl 0 rfl) ?_
  refine lv_lconst (v := 0) hx hb d_Fun_begin_11 (by decide) ?_
  refine zput (Z' := (sl (si (si Z 10 k (nI n)) 11 k 0) 2 k 0)) (v := .long 0) hC hd (e_f1 hq hk) rfl i_First t_First t_First_ok n_First 2 (by decide) q_272 (Or.inl rfl) rfl rfl rfl (Nat.le_of_ble_eq_true rfl) (u_f1_fv hq hk) d_Fun_begin_12 (fun H locs hd => ?_)
  refine lv_aload_n hx hb d_Fun_begin_15 rfl (lv_at hl 0 rfl) ?_
  refine lv_iconst (v := 0) hx hb d_Fun_begin_16 (by decide) ?_
  refine zput (Z' := (si (sl (si (si Z 10 k (nI n)) 11 k 0) 2 k 0) 12 k 0)) (v := .int 0) hC hd (e_f1 hq hk) rfl i_First t_First t_First_ok n_First 3 (by decide) q_279 (Or.inl rfl) rfl (zbool (by decide)) (zboolf (by decide)) (Nat.le_of_ble_eq_true rfl) (u_f1_failed hq hk) d_Fun_begin_17 (fun H locs hd => ?_)
  exact zfv hC hd hr hlk d_Fun_begin_20 rfl
set_option maxHeartbeats 4000000 in
theorem c_Fun_begin2 (l : Launch) (G : Gt) (ad : Nat → Nat → Nat) (ow : Nat → Nat × Nat) (Z : Zt) (k : Nat) (hq : k < xn Z 0 2) (hk : xn Z 1 k = 2) (n : Nat) : Met l y_Fun_begin w_Fun_begin ({ frames := 0, cells := 0, slots := 0, locals := 0 }) (zPc G ad ow Z [.ref (ad 2 k), .int (nI n)]) (Qd G ad ow (x_begin0 Z k n) (none)) 0 0 (zA G) := by
  refine zopen (cc := b_Fun_begin) (maxL := 2) (ret := none) (by decide) rfl (Nat.le_of_ble_eq_true rfl) ?_
  intro p e s m below meth c ls hC hr hlk hnm hd hl
  have hC : Cx G p c m s _ "KeyGraph$Function" b_Fun_begin 2 := hC
  have hl : lv_has ls 2 [(0, .ref (ad 2 k)), (1, .int (nI n))] := hl
  have hx := hC.1
  have hb := hC.2.1
  refine lv_aload_n hx hb d_Fun_begin_0 rfl (lv_at hl 0 rfl) ?_
  refine lv_iload_n hx hb d_Fun_begin_1 rfl (lv_at hl 1 rfl) ?_
  refine zput (Z' := (si Z 10 k (nI n))) (v := .int (nI n)) hC hd (e_f2 hq hk) rfl i_Choice t_Choice t_Choice_ok n_Choice 0 (by decide) q_252 (Or.inl rfl) rfl rfl rfl (Nat.le_of_ble_eq_true rfl) (u_f2_many hq hk) d_Fun_begin_2 (fun H locs hd => ?_)
  refine lv_aload_n hx hb d_Fun_begin_5 rfl (lv_at hl 0 rfl) ?_
  refine lv_iconst (v := 0) hx hb d_Fun_begin_6 (by decide) ?_
  refine zput (Z' := (si (si Z 10 k (nI n)) 11 k 0)) (v := .int 0) hC hd (e_f2 hq hk) rfl i_Choice t_Choice t_Choice_ok n_Choice 1 (by decide) q_259 (Or.inl rfl) rfl rfl rfl (Nat.le_of_ble_eq_true rfl) (u_f2_place hq hk) d_Fun_begin_7 (fun H locs hd => ?_)
  refine lv_aload_n hx hb d_Fun_begin_10 rfl (lv_at hl 0 rfl) ?_
  refine lv_lconst (v := 0) hx hb d_Fun_begin_11 (by decide) ?_
  refine zput (Z' := (sl (si (si Z 10 k (nI n)) 11 k 0) 2 k 0)) (v := .long 0) hC hd (e_f2 hq hk) rfl i_Choice t_Choice t_Choice_ok n_Choice 2 (by decide) q_272 (Or.inl rfl) rfl rfl rfl (Nat.le_of_ble_eq_true rfl) (u_f2_fv hq hk) d_Fun_begin_12 (fun H locs hd => ?_)
  refine lv_aload_n hx hb d_Fun_begin_15 rfl (lv_at hl 0 rfl) ?_
  refine lv_iconst (v := 0) hx hb d_Fun_begin_16 (by decide) ?_
  refine zput (Z' := (si (sl (si (si Z 10 k (nI n)) 11 k 0) 2 k 0) 12 k 0)) (v := .int 0) hC hd (e_f2 hq hk) rfl i_Choice t_Choice t_Choice_ok n_Choice 3 (by decide) q_279 (Or.inl rfl) rfl (zbool (by decide)) (zboolf (by decide)) (Nat.le_of_ble_eq_true rfl) (u_f2_failed hq hk) d_Fun_begin_17 (fun H locs hd => ?_)
  exact zfv hC hd hr hlk d_Fun_begin_20 rfl
set_option maxHeartbeats 4000000 in
theorem c_Fun_begin3 (l : Launch) (G : Gt) (ad : Nat → Nat → Nat) (ow : Nat → Nat × Nat) (Z : Zt) (k : Nat) (hq : k < xn Z 0 2) (hk : xn Z 1 k = 3) (n : Nat) : Met l y_Fun_begin w_Fun_begin ({ frames := 0, cells := 0, slots := 0, locals := 0 }) (zPc G ad ow Z [.ref (ad 2 k), .int (nI n)]) (Qd G ad ow (x_begin0 Z k n) (none)) 0 0 (zA G) := by
  refine zopen (cc := b_Fun_begin) (maxL := 2) (ret := none) (by decide) rfl (Nat.le_of_ble_eq_true rfl) ?_
  intro p e s m below meth c ls hC hr hlk hnm hd hl
  have hC : Cx G p c m s _ "KeyGraph$Function" b_Fun_begin 2 := hC
  have hl : lv_has ls 2 [(0, .ref (ad 2 k)), (1, .int (nI n))] := hl
  have hx := hC.1
  have hb := hC.2.1
  refine lv_aload_n hx hb d_Fun_begin_0 rfl (lv_at hl 0 rfl) ?_
  refine lv_iload_n hx hb d_Fun_begin_1 rfl (lv_at hl 1 rfl) ?_
  refine zput (Z' := (si Z 10 k (nI n))) (v := .int (nI n)) hC hd (e_f3 hq hk) rfl i_Quot t_Quot t_Quot_ok n_Quot 0 (by decide) q_252 (Or.inl rfl) rfl rfl rfl (Nat.le_of_ble_eq_true rfl) (u_f3_many hq hk) d_Fun_begin_2 (fun H locs hd => ?_)
  refine lv_aload_n hx hb d_Fun_begin_5 rfl (lv_at hl 0 rfl) ?_
  refine lv_iconst (v := 0) hx hb d_Fun_begin_6 (by decide) ?_
  refine zput (Z' := (si (si Z 10 k (nI n)) 11 k 0)) (v := .int 0) hC hd (e_f3 hq hk) rfl i_Quot t_Quot t_Quot_ok n_Quot 1 (by decide) q_259 (Or.inl rfl) rfl rfl rfl (Nat.le_of_ble_eq_true rfl) (u_f3_place hq hk) d_Fun_begin_7 (fun H locs hd => ?_)
  refine lv_aload_n hx hb d_Fun_begin_10 rfl (lv_at hl 0 rfl) ?_
  refine lv_lconst (v := 0) hx hb d_Fun_begin_11 (by decide) ?_
  refine zput (Z' := (sl (si (si Z 10 k (nI n)) 11 k 0) 2 k 0)) (v := .long 0) hC hd (e_f3 hq hk) rfl i_Quot t_Quot t_Quot_ok n_Quot 2 (by decide) q_272 (Or.inl rfl) rfl rfl rfl (Nat.le_of_ble_eq_true rfl) (u_f3_fv hq hk) d_Fun_begin_12 (fun H locs hd => ?_)
  refine lv_aload_n hx hb d_Fun_begin_15 rfl (lv_at hl 0 rfl) ?_
  refine lv_iconst (v := 0) hx hb d_Fun_begin_16 (by decide) ?_
  refine zput (Z' := (si (sl (si (si Z 10 k (nI n)) 11 k 0) 2 k 0) 12 k 0)) (v := .int 0) hC hd (e_f3 hq hk) rfl i_Quot t_Quot t_Quot_ok n_Quot 3 (by decide) q_279 (Or.inl rfl) rfl (zbool (by decide)) (zboolf (by decide)) (Nat.le_of_ble_eq_true rfl) (u_f3_failed hq hk) d_Fun_begin_17 (fun H locs hd => ?_)
  exact zfv hC hd hr hlk d_Fun_begin_20 rfl
set_option maxHeartbeats 4000000 in
theorem c_Fun_begin4 (l : Launch) (G : Gt) (ad : Nat → Nat → Nat) (ow : Nat → Nat × Nat) (Z : Zt) (k : Nat) (hq : k < xn Z 0 2) (hk : xn Z 1 k = 4) (n : Nat) : Met l y_Fun_begin w_Fun_begin ({ frames := 0, cells := 0, slots := 0, locals := 0 }) (zPc G ad ow Z [.ref (ad 2 k), .int (nI n)]) (Qd G ad ow (x_begin0 Z k n) (none)) 0 0 (zA G) := by
  refine zopen (cc := b_Fun_begin) (maxL := 2) (ret := none) (by decide) rfl (Nat.le_of_ble_eq_true rfl) ?_
  intro p e s m below meth c ls hC hr hlk hnm hd hl
  have hC : Cx G p c m s _ "KeyGraph$Function" b_Fun_begin 2 := hC
  have hl : lv_has ls 2 [(0, .ref (ad 2 k)), (1, .int (nI n))] := hl
  have hx := hC.1
  have hb := hC.2.1
  refine lv_aload_n hx hb d_Fun_begin_0 rfl (lv_at hl 0 rfl) ?_
  refine lv_iload_n hx hb d_Fun_begin_1 rfl (lv_at hl 1 rfl) ?_
  refine zput (Z' := (si Z 10 k (nI n))) (v := .int (nI n)) hC hd (e_f4 hq hk) rfl i_Sum t_Sum t_Sum_ok n_Sum 0 (by decide) q_252 (Or.inl rfl) rfl rfl rfl (Nat.le_of_ble_eq_true rfl) (u_f4_many hq hk) d_Fun_begin_2 (fun H locs hd => ?_)
  refine lv_aload_n hx hb d_Fun_begin_5 rfl (lv_at hl 0 rfl) ?_
  refine lv_iconst (v := 0) hx hb d_Fun_begin_6 (by decide) ?_
  refine zput (Z' := (si (si Z 10 k (nI n)) 11 k 0)) (v := .int 0) hC hd (e_f4 hq hk) rfl i_Sum t_Sum t_Sum_ok n_Sum 1 (by decide) q_259 (Or.inl rfl) rfl rfl rfl (Nat.le_of_ble_eq_true rfl) (u_f4_place hq hk) d_Fun_begin_7 (fun H locs hd => ?_)
  refine lv_aload_n hx hb d_Fun_begin_10 rfl (lv_at hl 0 rfl) ?_
  refine lv_lconst (v := 0) hx hb d_Fun_begin_11 (by decide) ?_
  refine zput (Z' := (sl (si (si Z 10 k (nI n)) 11 k 0) 2 k 0)) (v := .long 0) hC hd (e_f4 hq hk) rfl i_Sum t_Sum t_Sum_ok n_Sum 2 (by decide) q_272 (Or.inl rfl) rfl rfl rfl (Nat.le_of_ble_eq_true rfl) (u_f4_fv hq hk) d_Fun_begin_12 (fun H locs hd => ?_)
  refine lv_aload_n hx hb d_Fun_begin_15 rfl (lv_at hl 0 rfl) ?_
  refine lv_iconst (v := 0) hx hb d_Fun_begin_16 (by decide) ?_
  refine zput (Z' := (si (sl (si (si Z 10 k (nI n)) 11 k 0) 2 k 0) 12 k 0)) (v := .int 0) hC hd (e_f4 hq hk) rfl i_Sum t_Sum t_Sum_ok n_Sum 3 (by decide) q_279 (Or.inl rfl) rfl (zbool (by decide)) (zboolf (by decide)) (Nat.le_of_ble_eq_true rfl) (u_f4_failed hq hk) d_Fun_begin_17 (fun H locs hd => ?_)
  exact zfv hC hd hr hlk d_Fun_begin_20 rfl
set_option maxHeartbeats 4000000 in
theorem c_Fun_begin5 (l : Launch) (G : Gt) (ad : Nat → Nat → Nat) (ow : Nat → Nat × Nat) (Z : Zt) (k : Nat) (hq : k < xn Z 0 2) (hk : xn Z 1 k = 5) (n : Nat) : Met l y_Fun_begin w_Fun_begin ({ frames := 0, cells := 0, slots := 0, locals := 0 }) (zPc G ad ow Z [.ref (ad 2 k), .int (nI n)]) (Qd G ad ow (x_begin0 Z k n) (none)) 0 0 (zA G) := by
  refine zopen (cc := b_Fun_begin) (maxL := 2) (ret := none) (by decide) rfl (Nat.le_of_ble_eq_true rfl) ?_
  intro p e s m below meth c ls hC hr hlk hnm hd hl
  have hC : Cx G p c m s _ "KeyGraph$Function" b_Fun_begin 2 := hC
  have hl : lv_has ls 2 [(0, .ref (ad 2 k)), (1, .int (nI n))] := hl
  have hx := hC.1
  have hb := hC.2.1
  refine lv_aload_n hx hb d_Fun_begin_0 rfl (lv_at hl 0 rfl) ?_
  refine lv_iload_n hx hb d_Fun_begin_1 rfl (lv_at hl 1 rfl) ?_
  refine zput (Z' := (si Z 10 k (nI n))) (v := .int (nI n)) hC hd (e_f5 hq hk) rfl i_Great t_Great t_Great_ok n_Great 0 (by decide) q_252 (Or.inl rfl) rfl rfl rfl (Nat.le_of_ble_eq_true rfl) (u_f5_many hq hk) d_Fun_begin_2 (fun H locs hd => ?_)
  refine lv_aload_n hx hb d_Fun_begin_5 rfl (lv_at hl 0 rfl) ?_
  refine lv_iconst (v := 0) hx hb d_Fun_begin_6 (by decide) ?_
  refine zput (Z' := (si (si Z 10 k (nI n)) 11 k 0)) (v := .int 0) hC hd (e_f5 hq hk) rfl i_Great t_Great t_Great_ok n_Great 1 (by decide) q_259 (Or.inl rfl) rfl rfl rfl (Nat.le_of_ble_eq_true rfl) (u_f5_place hq hk) d_Fun_begin_7 (fun H locs hd => ?_)
  refine lv_aload_n hx hb d_Fun_begin_10 rfl (lv_at hl 0 rfl) ?_
  refine lv_lconst (v := 0) hx hb d_Fun_begin_11 (by decide) ?_
  refine zput (Z' := (sl (si (si Z 10 k (nI n)) 11 k 0) 2 k 0)) (v := .long 0) hC hd (e_f5 hq hk) rfl i_Great t_Great t_Great_ok n_Great 2 (by decide) q_272 (Or.inl rfl) rfl rfl rfl (Nat.le_of_ble_eq_true rfl) (u_f5_fv hq hk) d_Fun_begin_12 (fun H locs hd => ?_)
  refine lv_aload_n hx hb d_Fun_begin_15 rfl (lv_at hl 0 rfl) ?_
  refine lv_iconst (v := 0) hx hb d_Fun_begin_16 (by decide) ?_
  refine zput (Z' := (si (sl (si (si Z 10 k (nI n)) 11 k 0) 2 k 0) 12 k 0)) (v := .int 0) hC hd (e_f5 hq hk) rfl i_Great t_Great t_Great_ok n_Great 3 (by decide) q_279 (Or.inl rfl) rfl (zbool (by decide)) (zboolf (by decide)) (Nat.le_of_ble_eq_true rfl) (u_f5_failed hq hk) d_Fun_begin_17 (fun H locs hd => ?_)
  exact zfv hC hd hr hlk d_Fun_begin_20 rfl
set_option maxHeartbeats 4000000 in
theorem c_Choice_begin (l : Launch) (G : Gt) (ad : Nat → Nat → Nat) (ow : Nat → Nat × Nat) (Z : Zt) (k : Nat) (hq : k < xn Z 0 2) (hk : xn Z 1 k = 2) (n : Nat) : Met l y_Choice_begin w_Choice_begin ({ frames := 1, cells := 0, slots := 0, locals := 21 }) (zPc G ad ow Z [.ref (ad 2 k), .int (nI n)]) (Qd G ad ow (x_begin Z k n) (none)) 0 0 (zA G) := by
  refine zopen (cc := b_Choice_begin) (maxL := 2) (ret := none) (by decide) rfl (Nat.le_of_ble_eq_true rfl) ?_
  intro p e s m below meth c ls hC hr hlk hnm hd hl
  have hC : Cx G p c m s _ "KeyGraph$Choice" b_Choice_begin 2 := hC
  have hl : lv_has ls 2 [(0, .ref (ad 2 k)), (1, .int (nI n))] := hl
  have hx := hC.1
  have hb := hC.2.1
  refine lv_aload_n hx hb d_Choice_begin_0 rfl (lv_at hl 0 rfl) ?_
  refine lv_iload_n hx hb d_Choice_begin_1 rfl (lv_at hl 1 rfl) ?_
  refine zb_v hd (zrunP (n := 1) (rest := []) hC hd (e_f2 hq hk) rfl (c_Fun_begin2 l G ad ow Z k hq hk n) q_435 q_431 q_317 q_430 q_12 q_443 rfl rfl rfl (by decide +kernel) ⟨by decide, by decide⟩ rfl hl.1 (Nat.le_of_ble_eq_true rfl) d_Choice_begin_2 ⟨by decide, by decide⟩) (fun H locs hd => ?_)
  refine lv_aload_n hx hb d_Choice_begin_5 rfl (lv_at hl 0 rfl) ?_
  refine lv_iconst (v := 0) hx hb d_Choice_begin_6 (by decide) ?_
  refine zput (Z' := (si (x_begin0 Z k n) 13 k 0)) (v := .int 0) hC hd (e_f2 hq hk) rfl i_Choice t_Choice t_Choice_ok n_Choice 4 (by decide) q_310 (Or.inl rfl) rfl (zbool (by decide)) (zboolf (by decide)) (Nat.le_of_ble_eq_true rfl) (u_f2_chosen hq hk) d_Choice_begin_7 (fun H locs hd => ?_)
  exact zfv hC hd hr hlk d_Choice_begin_10 (by unfold x_begin; rw [hk]; (repeat (first | (rw [if_pos]; rotate_left; first | assumption | decide) | (rw [if_neg]; rotate_left; first | assumption | decide))) <;> (try rfl))
set_option maxHeartbeats 4000000 in
theorem c_Great_begin (l : Launch) (G : Gt) (ad : Nat → Nat → Nat) (ow : Nat → Nat × Nat) (Z : Zt) (k : Nat) (hq : k < xn Z 0 2) (hk : xn Z 1 k = 5) (n : Nat) (hn : n ≤ 8) : Met l y_Great_begin w_Great_begin ({ frames := 1, cells := 0, slots := 0, locals := 21 }) (zPc G ad ow Z [.ref (ad 2 k), .int (nI n)]) (Qd G ad ow (x_begin Z k n) (none)) 0 0 (zA G) := by
  refine zopen (cc := b_Great_begin) (maxL := 2) (ret := none) (by decide) rfl (Nat.le_of_ble_eq_true rfl) ?_
  intro p e s m below meth c ls hC hr hlk hnm hd hl
  have hC : Cx G p c m s _ "KeyGraph$Greatest" b_Great_begin 2 := hC
  have hl : lv_has ls 2 [(0, .ref (ad 2 k)), (1, .int (nI n))] := hl
  have hx := hC.1
  have hb := hC.2.1
  refine lv_aload_n hx hb d_Great_begin_0 rfl (lv_at hl 0 rfl) ?_
  refine lv_iload_n hx hb d_Great_begin_1 rfl (lv_at hl 1 rfl) ?_
  refine zb_v hd (zrunP (n := 1) (rest := []) hC hd (e_f5 hq hk) rfl (c_Fun_begin5 l G ad ow Z k hq hk n) q_440 q_431 q_339 q_430 q_12 q_443 rfl rfl rfl (by decide +kernel) ⟨by decide, by decide⟩ rfl hl.1 (Nat.le_of_ble_eq_true rfl) d_Great_begin_2 ⟨by decide, by decide⟩) (fun H locs hd => ?_)
  refine lv_aload_n hx hb d_Great_begin_5 rfl (lv_at hl 0 rfl) ?_
  refine lv_iload_n hx hb d_Great_begin_6 rfl (lv_at hl 1 rfl) ?_
  refine zi_ne (x := n) (tgt := 14) (by omega) hx hb d_Great_begin_7 (by decide) (fun c7 => ?_) (fun c7 => ?_)
  · have c7' := zi_p c7
    refine lv_iconst (v := 0) hx hb d_Great_begin_14 (by decide) ?_
    refine zput (Z' := (si (x_begin0 Z k n) 12 k 0)) (v := .int 0) hC hd (e_f5 hq hk) rfl i_Great t_Great t_Great_ok n_Great 3 (by decide) q_277 (Or.inr q_278) rfl (zbool (by decide)) (zboolf (by decide)) (Nat.le_of_ble_eq_true rfl) (u_f5_failed hq hk) d_Great_begin_15 (fun H locs hd => ?_)
    exact zfv hC hd hr hlk d_Great_begin_18 (by unfold x_begin; rw [hk]; (repeat (first | (rw [if_pos]; rotate_left; first | assumption | decide) | (rw [if_neg]; rotate_left; first | assumption | decide))) <;> (try rfl))
  · have c7' := zi_z c7
    refine lv_iconst (v := 1) hx hb d_Great_begin_10 (by decide) ?_
    refine lv_goto (tgt := 15) hx hb d_Great_begin_11 (by decide) ?_
    refine zput (Z' := (si (x_begin0 Z k n) 12 k 1)) (v := .int 1) hC hd (e_f5 hq hk) rfl i_Great t_Great t_Great_ok n_Great 3 (by decide) q_277 (Or.inr q_278) rfl (zbool (by decide)) (zboolf (by decide)) (Nat.le_of_ble_eq_true rfl) (u_f5_failed hq hk) d_Great_begin_15 (fun H locs hd => ?_)
    exact zfv hC hd hr hlk d_Great_begin_18 (by unfold x_begin; rw [hk]; (repeat (first | (rw [if_pos]; rotate_left; first | assumption | decide) | (rw [if_neg]; rotate_left; first | assumption | decide))) <;> (try rfl))
set_option maxHeartbeats 4000000 in
theorem c_Fun_next0 (l : Launch) (G : Gt) (ad : Nat → Nat → Nat) (ow : Nat → Nat × Nat) (Z : Zt) (k : Nat) (hq : k < xn Z 0 2) (hk : xn Z 1 k = 0) : Met l y_Fun_next w_Fun_next ({ frames := 0, cells := 0, slots := 0, locals := 0 }) (zPc G ad ow Z [.ref (ad 2 k)]) (Qd G ad ow Z (some (.int (x_next Z k)))) 0 0 (zA G) := by
  refine zopen (cc := b_Fun_next) (maxL := 1) (ret := (some FieldType.int)) (by decide) rfl (Nat.le_of_ble_eq_true rfl) ?_
  intro p e s m below meth c ls hC hr hlk hnm hd hl
  have hC : Cx G p c m s _ "KeyGraph$Function" b_Fun_next 1 := hC
  have hl : lv_has ls 1 [(0, .ref (ad 2 k))] := hl
  have hx := hC.1
  have hb := hC.2.1
  refine lv_aload_n hx hb d_Fun_next_0 rfl (lv_at hl 0 rfl) ?_
  refine zget hC hd (e_f0 hq hk) rfl i_Sum 1 (by decide) q_259 (Or.inl rfl) (v := .int (xi Z 11 k)) rfl d_Fun_next_1 ?_
  refine lv_aload_n hx hb d_Fun_next_4 rfl (lv_at hl 0 rfl) ?_
  refine zget hC hd (e_f0 hq hk) rfl i_Sum 0 (by decide) q_252 (Or.inl rfl) (v := .int (xi Z 10 k)) rfl d_Fun_next_5 ?_
  refine lv_icmp_ge (tgt := 18) hx hb d_Fun_next_8 (by decide) (fun c8 => ?_) (fun c8 => ?_)
  · refine lv_iconst (v := (-1)) hx hb d_Fun_next_18 (by decide) ?_
    exact zfi hC hd hr hlk d_Fun_next_19 (by unfold x_next; rw [hk]; (repeat (first | (rw [if_pos]; rotate_left; first | assumption | decide) | (rw [if_neg]; rotate_left; first | assumption | decide))) <;> (try rfl)) rfl
  · refine lv_aload_n hx hb d_Fun_next_11 rfl (lv_at hl 0 rfl) ?_
    refine zget hC hd (e_f0 hq hk) rfl i_Sum 1 (by decide) q_259 (Or.inl rfl) (v := .int (xi Z 11 k)) rfl d_Fun_next_12 ?_
    refine lv_goto (tgt := 19) hx hb d_Fun_next_15 (by decide) ?_
    exact zfi hC hd hr hlk d_Fun_next_19 (by unfold x_next; rw [hk]; (repeat (first | (rw [if_pos]; rotate_left; first | assumption | decide) | (rw [if_neg]; rotate_left; first | assumption | decide))) <;> (try rfl)) rfl
set_option maxHeartbeats 4000000 in
theorem c_Fun_next1 (l : Launch) (G : Gt) (ad : Nat → Nat → Nat) (ow : Nat → Nat × Nat) (Z : Zt) (k : Nat) (hq : k < xn Z 0 2) (hk : xn Z 1 k = 1) : Met l y_Fun_next w_Fun_next ({ frames := 0, cells := 0, slots := 0, locals := 0 }) (zPc G ad ow Z [.ref (ad 2 k)]) (Qd G ad ow Z (some (.int (x_next Z k)))) 0 0 (zA G) := by
  refine zopen (cc := b_Fun_next) (maxL := 1) (ret := (some FieldType.int)) (by decide) rfl (Nat.le_of_ble_eq_true rfl) ?_
  intro p e s m below meth c ls hC hr hlk hnm hd hl
  have hC : Cx G p c m s _ "KeyGraph$Function" b_Fun_next 1 := hC
  have hl : lv_has ls 1 [(0, .ref (ad 2 k))] := hl
  have hx := hC.1
  have hb := hC.2.1
  refine lv_aload_n hx hb d_Fun_next_0 rfl (lv_at hl 0 rfl) ?_
  refine zget hC hd (e_f1 hq hk) rfl i_First 1 (by decide) q_259 (Or.inl rfl) (v := .int (xi Z 11 k)) rfl d_Fun_next_1 ?_
  refine lv_aload_n hx hb d_Fun_next_4 rfl (lv_at hl 0 rfl) ?_
  refine zget hC hd (e_f1 hq hk) rfl i_First 0 (by decide) q_252 (Or.inl rfl) (v := .int (xi Z 10 k)) rfl d_Fun_next_5 ?_
  refine lv_icmp_ge (tgt := 18) hx hb d_Fun_next_8 (by decide) (fun c8 => ?_) (fun c8 => ?_)
  · refine lv_iconst (v := (-1)) hx hb d_Fun_next_18 (by decide) ?_
    exact zfi hC hd hr hlk d_Fun_next_19 (by unfold x_next; rw [hk]; (repeat (first | (rw [if_pos]; rotate_left; first | assumption | decide) | (rw [if_neg]; rotate_left; first | assumption | decide))) <;> (try rfl)) rfl
  · refine lv_aload_n hx hb d_Fun_next_11 rfl (lv_at hl 0 rfl) ?_
    refine zget hC hd (e_f1 hq hk) rfl i_First 1 (by decide) q_259 (Or.inl rfl) (v := .int (xi Z 11 k)) rfl d_Fun_next_12 ?_
    refine lv_goto (tgt := 19) hx hb d_Fun_next_15 (by decide) ?_
    exact zfi hC hd hr hlk d_Fun_next_19 (by unfold x_next; rw [hk]; (repeat (first | (rw [if_pos]; rotate_left; first | assumption | decide) | (rw [if_neg]; rotate_left; first | assumption | decide))) <;> (try rfl)) rfl
set_option maxHeartbeats 4000000 in
theorem c_Fun_next3 (l : Launch) (G : Gt) (ad : Nat → Nat → Nat) (ow : Nat → Nat × Nat) (Z : Zt) (k : Nat) (hq : k < xn Z 0 2) (hk : xn Z 1 k = 3) : Met l y_Fun_next w_Fun_next ({ frames := 0, cells := 0, slots := 0, locals := 0 }) (zPc G ad ow Z [.ref (ad 2 k)]) (Qd G ad ow Z (some (.int (x_next Z k)))) 0 0 (zA G) := by
  refine zopen (cc := b_Fun_next) (maxL := 1) (ret := (some FieldType.int)) (by decide) rfl (Nat.le_of_ble_eq_true rfl) ?_
  intro p e s m below meth c ls hC hr hlk hnm hd hl
  have hC : Cx G p c m s _ "KeyGraph$Function" b_Fun_next 1 := hC
  have hl : lv_has ls 1 [(0, .ref (ad 2 k))] := hl
  have hx := hC.1
  have hb := hC.2.1
  refine lv_aload_n hx hb d_Fun_next_0 rfl (lv_at hl 0 rfl) ?_
  refine zget hC hd (e_f3 hq hk) rfl i_Quot 1 (by decide) q_259 (Or.inl rfl) (v := .int (xi Z 11 k)) rfl d_Fun_next_1 ?_
  refine lv_aload_n hx hb d_Fun_next_4 rfl (lv_at hl 0 rfl) ?_
  refine zget hC hd (e_f3 hq hk) rfl i_Quot 0 (by decide) q_252 (Or.inl rfl) (v := .int (xi Z 10 k)) rfl d_Fun_next_5 ?_
  refine lv_icmp_ge (tgt := 18) hx hb d_Fun_next_8 (by decide) (fun c8 => ?_) (fun c8 => ?_)
  · refine lv_iconst (v := (-1)) hx hb d_Fun_next_18 (by decide) ?_
    exact zfi hC hd hr hlk d_Fun_next_19 (by unfold x_next; rw [hk]; (repeat (first | (rw [if_pos]; rotate_left; first | assumption | decide) | (rw [if_neg]; rotate_left; first | assumption | decide))) <;> (try rfl)) rfl
  · refine lv_aload_n hx hb d_Fun_next_11 rfl (lv_at hl 0 rfl) ?_
    refine zget hC hd (e_f3 hq hk) rfl i_Quot 1 (by decide) q_259 (Or.inl rfl) (v := .int (xi Z 11 k)) rfl d_Fun_next_12 ?_
    refine lv_goto (tgt := 19) hx hb d_Fun_next_15 (by decide) ?_
    exact zfi hC hd hr hlk d_Fun_next_19 (by unfold x_next; rw [hk]; (repeat (first | (rw [if_pos]; rotate_left; first | assumption | decide) | (rw [if_neg]; rotate_left; first | assumption | decide))) <;> (try rfl)) rfl
set_option maxHeartbeats 4000000 in
theorem c_Fun_next4 (l : Launch) (G : Gt) (ad : Nat → Nat → Nat) (ow : Nat → Nat × Nat) (Z : Zt) (k : Nat) (hq : k < xn Z 0 2) (hk : xn Z 1 k = 4) : Met l y_Fun_next w_Fun_next ({ frames := 0, cells := 0, slots := 0, locals := 0 }) (zPc G ad ow Z [.ref (ad 2 k)]) (Qd G ad ow Z (some (.int (x_next Z k)))) 0 0 (zA G) := by
  refine zopen (cc := b_Fun_next) (maxL := 1) (ret := (some FieldType.int)) (by decide) rfl (Nat.le_of_ble_eq_true rfl) ?_
  intro p e s m below meth c ls hC hr hlk hnm hd hl
  have hC : Cx G p c m s _ "KeyGraph$Function" b_Fun_next 1 := hC
  have hl : lv_has ls 1 [(0, .ref (ad 2 k))] := hl
  have hx := hC.1
  have hb := hC.2.1
  refine lv_aload_n hx hb d_Fun_next_0 rfl (lv_at hl 0 rfl) ?_
  refine zget hC hd (e_f4 hq hk) rfl i_Sum 1 (by decide) q_259 (Or.inl rfl) (v := .int (xi Z 11 k)) rfl d_Fun_next_1 ?_
  refine lv_aload_n hx hb d_Fun_next_4 rfl (lv_at hl 0 rfl) ?_
  refine zget hC hd (e_f4 hq hk) rfl i_Sum 0 (by decide) q_252 (Or.inl rfl) (v := .int (xi Z 10 k)) rfl d_Fun_next_5 ?_
  refine lv_icmp_ge (tgt := 18) hx hb d_Fun_next_8 (by decide) (fun c8 => ?_) (fun c8 => ?_)
  · refine lv_iconst (v := (-1)) hx hb d_Fun_next_18 (by decide) ?_
    exact zfi hC hd hr hlk d_Fun_next_19 (by unfold x_next; rw [hk]; (repeat (first | (rw [if_pos]; rotate_left; first | assumption | decide) | (rw [if_neg]; rotate_left; first | assumption | decide))) <;> (try rfl)) rfl
  · refine lv_aload_n hx hb d_Fun_next_11 rfl (lv_at hl 0 rfl) ?_
    refine zget hC hd (e_f4 hq hk) rfl i_Sum 1 (by decide) q_259 (Or.inl rfl) (v := .int (xi Z 11 k)) rfl d_Fun_next_12 ?_
    refine lv_goto (tgt := 19) hx hb d_Fun_next_15 (by decide) ?_
    exact zfi hC hd hr hlk d_Fun_next_19 (by unfold x_next; rw [hk]; (repeat (first | (rw [if_pos]; rotate_left; first | assumption | decide) | (rw [if_neg]; rotate_left; first | assumption | decide))) <;> (try rfl)) rfl
set_option maxHeartbeats 4000000 in
theorem c_Fun_next5 (l : Launch) (G : Gt) (ad : Nat → Nat → Nat) (ow : Nat → Nat × Nat) (Z : Zt) (k : Nat) (hq : k < xn Z 0 2) (hk : xn Z 1 k = 5) : Met l y_Fun_next w_Fun_next ({ frames := 0, cells := 0, slots := 0, locals := 0 }) (zPc G ad ow Z [.ref (ad 2 k)]) (Qd G ad ow Z (some (.int (x_next Z k)))) 0 0 (zA G) := by
  refine zopen (cc := b_Fun_next) (maxL := 1) (ret := (some FieldType.int)) (by decide) rfl (Nat.le_of_ble_eq_true rfl) ?_
  intro p e s m below meth c ls hC hr hlk hnm hd hl
  have hC : Cx G p c m s _ "KeyGraph$Function" b_Fun_next 1 := hC
  have hl : lv_has ls 1 [(0, .ref (ad 2 k))] := hl
  have hx := hC.1
  have hb := hC.2.1
  refine lv_aload_n hx hb d_Fun_next_0 rfl (lv_at hl 0 rfl) ?_
  refine zget hC hd (e_f5 hq hk) rfl i_Great 1 (by decide) q_259 (Or.inl rfl) (v := .int (xi Z 11 k)) rfl d_Fun_next_1 ?_
  refine lv_aload_n hx hb d_Fun_next_4 rfl (lv_at hl 0 rfl) ?_
  refine zget hC hd (e_f5 hq hk) rfl i_Great 0 (by decide) q_252 (Or.inl rfl) (v := .int (xi Z 10 k)) rfl d_Fun_next_5 ?_
  refine lv_icmp_ge (tgt := 18) hx hb d_Fun_next_8 (by decide) (fun c8 => ?_) (fun c8 => ?_)
  · refine lv_iconst (v := (-1)) hx hb d_Fun_next_18 (by decide) ?_
    exact zfi hC hd hr hlk d_Fun_next_19 (by unfold x_next; rw [hk]; (repeat (first | (rw [if_pos]; rotate_left; first | assumption | decide) | (rw [if_neg]; rotate_left; first | assumption | decide))) <;> (try rfl)) rfl
  · refine lv_aload_n hx hb d_Fun_next_11 rfl (lv_at hl 0 rfl) ?_
    refine zget hC hd (e_f5 hq hk) rfl i_Great 1 (by decide) q_259 (Or.inl rfl) (v := .int (xi Z 11 k)) rfl d_Fun_next_12 ?_
    refine lv_goto (tgt := 19) hx hb d_Fun_next_15 (by decide) ?_
    exact zfi hC hd hr hlk d_Fun_next_19 (by unfold x_next; rw [hk]; (repeat (first | (rw [if_pos]; rotate_left; first | assumption | decide) | (rw [if_neg]; rotate_left; first | assumption | decide))) <;> (try rfl)) rfl
set_option maxHeartbeats 4000000 in
theorem c_Choice_next (l : Launch) (G : Gt) (ad : Nat → Nat → Nat) (ow : Nat → Nat × Nat) (Z : Zt) (k : Nat) (hq : k < xn Z 0 2) (hk : xn Z 1 k = 2) : Met l y_Choice_next w_Choice_next ({ frames := 0, cells := 0, slots := 0, locals := 0 }) (zPc G ad ow Z [.ref (ad 2 k)]) (Qd G ad ow Z (some (.int (x_next Z k)))) 0 0 (zA G) := by
  refine zopen (cc := b_Choice_next) (maxL := 1) (ret := (some FieldType.int)) (by decide) rfl (Nat.le_of_ble_eq_true rfl) ?_
  intro p e s m below meth c ls hC hr hlk hnm hd hl
  have hC : Cx G p c m s _ "KeyGraph$Choice" b_Choice_next 1 := hC
  have hl : lv_has ls 1 [(0, .ref (ad 2 k))] := hl
  have hx := hC.1
  have hb := hC.2.1
  refine lv_aload_n hx hb d_Choice_next_0 rfl (lv_at hl 0 rfl) ?_
  refine zget hC hd (e_f2 hq hk) rfl i_Choice 4 (by decide) q_310 (Or.inl rfl) (v := .int (xi Z 13 k)) rfl d_Choice_next_1 ?_
  refine lv_if_eq (tgt := 14) hx hb d_Choice_next_4 (by decide) (fun c4 => ?_) (fun c4 => ?_)
  · refine lv_aload_n hx hb d_Choice_next_14 rfl (lv_at hl 0 rfl) ?_
    refine zget hC hd (e_f2 hq hk) rfl i_Choice 0 (by decide) q_255 (Or.inr q_256) (v := .int (xi Z 10 k)) rfl d_Choice_next_15 ?_
    refine lv_if_le (tgt := 25) hx hb d_Choice_next_18 (by decide) (fun c18 => ?_) (fun c18 => ?_)
    · refine lv_iconst (v := (-1)) hx hb d_Choice_next_25 (by decide) ?_
      exact zfi hC hd hr hlk d_Choice_next_26 (by unfold x_next; rw [hk]; (repeat (first | (rw [if_pos]; rotate_left; first | assumption | decide) | (rw [if_neg]; rotate_left; first | assumption | decide))) <;> (try rfl)) rfl
    · refine lv_iconst (v := 0) hx hb d_Choice_next_21 (by decide) ?_
      refine lv_goto (tgt := 26) hx hb d_Choice_next_22 (by decide) ?_
      exact zfi hC hd hr hlk d_Choice_next_26 (by unfold x_next; rw [hk]; (repeat (first | (rw [if_pos]; rotate_left; first | assumption | decide) | (rw [if_neg]; rotate_left; first | assumption | decide))) <;> (try rfl)) rfl
  · refine lv_aload_n hx hb d_Choice_next_7 rfl (lv_at hl 0 rfl) ?_
    refine zget hC hd (e_f2 hq hk) rfl i_Choice 1 (by decide) q_264 (Or.inr q_265) (v := .int (xi Z 11 k)) rfl d_Choice_next_8 ?_
    refine lv_goto (tgt := 26) hx hb d_Choice_next_11 (by decide) ?_
    exact zfi hC hd hr hlk d_Choice_next_26 (by unfold x_next; rw [hk]; (repeat (first | (rw [if_pos]; rotate_left; first | assumption | decide) | (rw [if_neg]; rotate_left; first | assumption | decide))) <;> (try rfl)) rfl
set_option maxHeartbeats 4000000 in
theorem c_Fun_result1 (l : Launch) (G : Gt) (ad : Nat → Nat → Nat) (ow : Nat → Nat × Nat) (Z : Zt) (k : Nat) (hq : k < xn Z 0 2) (hk : xn Z 1 k = 1) : Met l y_Fun_result w_Fun_result ({ frames := 0, cells := 0, slots := 0, locals := 0 }) (zPc G ad ow Z [.ref (ad 2 k)]) (Qd G ad ow Z (some (.long (x_result Z k)))) 0 0 (zA G) := by
  refine zopen (cc := b_Fun_result) (maxL := 1) (ret := (some FieldType.long)) (by decide) rfl (Nat.le_of_ble_eq_true rfl) ?_
  intro p e s m below meth c ls hC hr hlk hnm hd hl
  have hC : Cx G p c m s _ "KeyGraph$Function" b_Fun_result 1 := hC
  have hl : lv_has ls 1 [(0, .ref (ad 2 k))] := hl
  have hx := hC.1
  have hb := hC.2.1
  refine lv_aload_n hx hb d_Fun_result_0 rfl (lv_at hl 0 rfl) ?_
  refine zget hC hd (e_f1 hq hk) rfl i_First 2 (by decide) q_272 (Or.inl rfl) (v := .long (xl Z 2 k)) rfl d_Fun_result_1 ?_
  exact zfl hC hd hr hlk d_Fun_result_4 (by unfold x_result; rw [hk]; (repeat (first | (rw [if_pos]; rotate_left; first | assumption | decide) | (rw [if_neg]; rotate_left; first | assumption | decide))) <;> (try rfl)) rfl
set_option maxHeartbeats 4000000 in
theorem c_Fun_result2 (l : Launch) (G : Gt) (ad : Nat → Nat → Nat) (ow : Nat → Nat × Nat) (Z : Zt) (k : Nat) (hq : k < xn Z 0 2) (hk : xn Z 1 k = 2) : Met l y_Fun_result w_Fun_result ({ frames := 0, cells := 0, slots := 0, locals := 0 }) (zPc G ad ow Z [.ref (ad 2 k)]) (Qd G ad ow Z (some (.long (x_result Z k)))) 0 0 (zA G) := by
  refine zopen (cc := b_Fun_result) (maxL := 1) (ret := (some FieldType.long)) (by decide) rfl (Nat.le_of_ble_eq_true rfl) ?_
  intro p e s m below meth c ls hC hr hlk hnm hd hl
  have hC : Cx G p c m s _ "KeyGraph$Function" b_Fun_result 1 := hC
  have hl : lv_has ls 1 [(0, .ref (ad 2 k))] := hl
  have hx := hC.1
  have hb := hC.2.1
  refine lv_aload_n hx hb d_Fun_result_0 rfl (lv_at hl 0 rfl) ?_
  refine zget hC hd (e_f2 hq hk) rfl i_Choice 2 (by decide) q_272 (Or.inl rfl) (v := .long (xl Z 2 k)) rfl d_Fun_result_1 ?_
  exact zfl hC hd hr hlk d_Fun_result_4 (by unfold x_result; rw [hk]; (repeat (first | (rw [if_pos]; rotate_left; first | assumption | decide) | (rw [if_neg]; rotate_left; first | assumption | decide))) <;> (try rfl)) rfl
set_option maxHeartbeats 4000000 in
theorem c_Fun_result3 (l : Launch) (G : Gt) (ad : Nat → Nat → Nat) (ow : Nat → Nat × Nat) (Z : Zt) (k : Nat) (hq : k < xn Z 0 2) (hk : xn Z 1 k = 3) : Met l y_Fun_result w_Fun_result ({ frames := 0, cells := 0, slots := 0, locals := 0 }) (zPc G ad ow Z [.ref (ad 2 k)]) (Qd G ad ow Z (some (.long (x_result Z k)))) 0 0 (zA G) := by
  refine zopen (cc := b_Fun_result) (maxL := 1) (ret := (some FieldType.long)) (by decide) rfl (Nat.le_of_ble_eq_true rfl) ?_
  intro p e s m below meth c ls hC hr hlk hnm hd hl
  have hC : Cx G p c m s _ "KeyGraph$Function" b_Fun_result 1 := hC
  have hl : lv_has ls 1 [(0, .ref (ad 2 k))] := hl
  have hx := hC.1
  have hb := hC.2.1
  refine lv_aload_n hx hb d_Fun_result_0 rfl (lv_at hl 0 rfl) ?_
  refine zget hC hd (e_f3 hq hk) rfl i_Quot 2 (by decide) q_272 (Or.inl rfl) (v := .long (xl Z 2 k)) rfl d_Fun_result_1 ?_
  exact zfl hC hd hr hlk d_Fun_result_4 (by unfold x_result; rw [hk]; (repeat (first | (rw [if_pos]; rotate_left; first | assumption | decide) | (rw [if_neg]; rotate_left; first | assumption | decide))) <;> (try rfl)) rfl
set_option maxHeartbeats 4000000 in
theorem c_Fun_result5 (l : Launch) (G : Gt) (ad : Nat → Nat → Nat) (ow : Nat → Nat × Nat) (Z : Zt) (k : Nat) (hq : k < xn Z 0 2) (hk : xn Z 1 k = 5) : Met l y_Fun_result w_Fun_result ({ frames := 0, cells := 0, slots := 0, locals := 0 }) (zPc G ad ow Z [.ref (ad 2 k)]) (Qd G ad ow Z (some (.long (x_result Z k)))) 0 0 (zA G) := by
  refine zopen (cc := b_Fun_result) (maxL := 1) (ret := (some FieldType.long)) (by decide) rfl (Nat.le_of_ble_eq_true rfl) ?_
  intro p e s m below meth c ls hC hr hlk hnm hd hl
  have hC : Cx G p c m s _ "KeyGraph$Function" b_Fun_result 1 := hC
  have hl : lv_has ls 1 [(0, .ref (ad 2 k))] := hl
  have hx := hC.1
  have hb := hC.2.1
  refine lv_aload_n hx hb d_Fun_result_0 rfl (lv_at hl 0 rfl) ?_
  refine zget hC hd (e_f5 hq hk) rfl i_Great 2 (by decide) q_272 (Or.inl rfl) (v := .long (xl Z 2 k)) rfl d_Fun_result_1 ?_
  exact zfl hC hd hr hlk d_Fun_result_4 (by unfold x_result; rw [hk]; (repeat (first | (rw [if_pos]; rotate_left; first | assumption | decide) | (rw [if_neg]; rotate_left; first | assumption | decide))) <;> (try rfl)) rfl
set_option maxHeartbeats 4000000 in
theorem c_Sum_result0 (l : Launch) (G : Gt) (ad : Nat → Nat → Nat) (ow : Nat → Nat × Nat) (Z : Zt) (k : Nat) (hq : k < xn Z 0 2) (hk : xn Z 1 k = 0) : Met l y_Sum_result w_Sum_result ({ frames := 0, cells := 0, slots := 0, locals := 0 }) (zPc G ad ow Z [.ref (ad 2 k)]) (Qd G ad ow Z (some (.long (x_result Z k)))) 0 0 (zA G) := by
  refine zopen (cc := b_Sum_result) (maxL := 1) (ret := (some FieldType.long)) (by decide) rfl (Nat.le_of_ble_eq_true rfl) ?_
  intro p e s m below meth c ls hC hr hlk hnm hd hl
  have hC : Cx G p c m s _ "KeyGraph$Sum" b_Sum_result 1 := hC
  have hl : lv_has ls 1 [(0, .ref (ad 2 k))] := hl
  have hx := hC.1
  have hb := hC.2.1
  refine lv_aload_n hx hb d_Sum_result_0 rfl (lv_at hl 0 rfl) ?_
  refine zget hC hd (e_f0 hq hk) rfl i_Sum 4 (by decide) q_251 (Or.inl rfl) (v := .int 0) rfl d_Sum_result_1 ?_
  refine lv_if_eq (tgt := 16) hx hb d_Sum_result_4 (by decide) (fun _ => ?_) (fun c => absurd c (by decide))
  refine lv_aload_n hx hb d_Sum_result_16 rfl (lv_at hl 0 rfl) ?_
  refine zget hC hd (e_f0 hq hk) rfl i_Sum 2 (by decide) q_268 (Or.inr q_269) (v := .long (xl Z 2 k)) rfl d_Sum_result_17 ?_
  exact zfl hC hd hr hlk d_Sum_result_20 (by unfold x_result; rw [hk]; (repeat (first | (rw [if_pos]; rotate_left; first | assumption | decide) | (rw [if_neg]; rotate_left; first | assumption | decide))) <;> (try rfl)) rfl
set_option maxHeartbeats 4000000 in
theorem c_Sum_result4 (l : Launch) (G : Gt) (ad : Nat → Nat → Nat) (ow : Nat → Nat × Nat) (Z : Zt) (k : Nat) (hq : k < xn Z 0 2) (hk : xn Z 1 k = 4) : Met l y_Sum_result w_Sum_result ({ frames := 0, cells := 0, slots := 0, locals := 0 }) (zPc G ad ow Z [.ref (ad 2 k)]) (Qd G ad ow Z (some (.long (x_result Z k)))) 0 0 (zA G) := by
  refine zopen (cc := b_Sum_result) (maxL := 1) (ret := (some FieldType.long)) (by decide) rfl (Nat.le_of_ble_eq_true rfl) ?_
  intro p e s m below meth c ls hC hr hlk hnm hd hl
  have hC : Cx G p c m s _ "KeyGraph$Sum" b_Sum_result 1 := hC
  have hl : lv_has ls 1 [(0, .ref (ad 2 k))] := hl
  have hx := hC.1
  have hb := hC.2.1
  refine lv_aload_n hx hb d_Sum_result_0 rfl (lv_at hl 0 rfl) ?_
  refine zget hC hd (e_f4 hq hk) rfl i_Sum 4 (by decide) q_251 (Or.inl rfl) (v := .int 1) rfl d_Sum_result_1 ?_
  refine lv_if_eq (tgt := 16) hx hb d_Sum_result_4 (by decide) (fun c => absurd c (by decide)) (fun _ => ?_)
  refine lv_aload_n hx hb d_Sum_result_7 rfl (lv_at hl 0 rfl) ?_
  refine zget hC hd (e_f4 hq hk) rfl i_Sum 2 (by decide) q_268 (Or.inr q_269) (v := .long (xl Z 2 k)) rfl d_Sum_result_8 ?_
  refine lv_lconst (v := 1) hx hb d_Sum_result_11 (by decide) ?_
  refine lv_land hx hb d_Sum_result_12 ?_
  refine lv_goto (tgt := 20) hx hb d_Sum_result_13 (by decide) ?_
  exact zfl hC hd hr hlk d_Sum_result_20 (by unfold x_result; rw [hk]; (repeat (first | (rw [if_pos]; rotate_left; first | assumption | decide) | (rw [if_neg]; rotate_left; first | assumption | decide))) <;> (try rfl)) rfl
set_option maxHeartbeats 4000000 in
theorem c_Fun_fails0 (l : Launch) (G : Gt) (ad : Nat → Nat → Nat) (ow : Nat → Nat × Nat) (Z : Zt) (k : Nat) (hq : k < xn Z 0 2) (hk : xn Z 1 k = 0) (hfb : xi Z 12 k = 0 ∨ xi Z 12 k = 1) : Met l y_Fun_fails w_Fun_fails ({ frames := 0, cells := 0, slots := 0, locals := 0 }) (zPc G ad ow Z [.ref (ad 2 k)]) (Qd G ad ow Z (some (.int (xi Z 12 k)))) 0 0 (zA G) := by
  refine zopen (cc := b_Fun_fails) (maxL := 1) (ret := (some FieldType.boolean)) (by decide) rfl (Nat.le_of_ble_eq_true rfl) ?_
  intro p e s m below meth c ls hC hr hlk hnm hd hl
  have hC : Cx G p c m s _ "KeyGraph$Function" b_Fun_fails 1 := hC
  have hl : lv_has ls 1 [(0, .ref (ad 2 k))] := hl
  have hx := hC.1
  have hb := hC.2.1
  refine lv_aload_n hx hb d_Fun_fails_0 rfl (lv_at hl 0 rfl) ?_
  refine zget hC hd (e_f0 hq hk) rfl i_Sum 3 (by decide) q_279 (Or.inl rfl) (v := .int (xi Z 12 k)) rfl d_Fun_fails_1 ?_
  exact zfz hC hd hr hlk d_Fun_fails_4 hfb rfl rfl
set_option maxHeartbeats 4000000 in
theorem c_Fun_fails1 (l : Launch) (G : Gt) (ad : Nat → Nat → Nat) (ow : Nat → Nat × Nat) (Z : Zt) (k : Nat) (hq : k < xn Z 0 2) (hk : xn Z 1 k = 1) (hfb : xi Z 12 k = 0 ∨ xi Z 12 k = 1) : Met l y_Fun_fails w_Fun_fails ({ frames := 0, cells := 0, slots := 0, locals := 0 }) (zPc G ad ow Z [.ref (ad 2 k)]) (Qd G ad ow Z (some (.int (xi Z 12 k)))) 0 0 (zA G) := by
  refine zopen (cc := b_Fun_fails) (maxL := 1) (ret := (some FieldType.boolean)) (by decide) rfl (Nat.le_of_ble_eq_true rfl) ?_
  intro p e s m below meth c ls hC hr hlk hnm hd hl
  have hC : Cx G p c m s _ "KeyGraph$Function" b_Fun_fails 1 := hC
  have hl : lv_has ls 1 [(0, .ref (ad 2 k))] := hl
  have hx := hC.1
  have hb := hC.2.1
  refine lv_aload_n hx hb d_Fun_fails_0 rfl (lv_at hl 0 rfl) ?_
  refine zget hC hd (e_f1 hq hk) rfl i_First 3 (by decide) q_279 (Or.inl rfl) (v := .int (xi Z 12 k)) rfl d_Fun_fails_1 ?_
  exact zfz hC hd hr hlk d_Fun_fails_4 hfb rfl rfl
set_option maxHeartbeats 4000000 in
theorem c_Fun_fails2 (l : Launch) (G : Gt) (ad : Nat → Nat → Nat) (ow : Nat → Nat × Nat) (Z : Zt) (k : Nat) (hq : k < xn Z 0 2) (hk : xn Z 1 k = 2) (hfb : xi Z 12 k = 0 ∨ xi Z 12 k = 1) : Met l y_Fun_fails w_Fun_fails ({ frames := 0, cells := 0, slots := 0, locals := 0 }) (zPc G ad ow Z [.ref (ad 2 k)]) (Qd G ad ow Z (some (.int (xi Z 12 k)))) 0 0 (zA G) := by
  refine zopen (cc := b_Fun_fails) (maxL := 1) (ret := (some FieldType.boolean)) (by decide) rfl (Nat.le_of_ble_eq_true rfl) ?_
  intro p e s m below meth c ls hC hr hlk hnm hd hl
  have hC : Cx G p c m s _ "KeyGraph$Function" b_Fun_fails 1 := hC
  have hl : lv_has ls 1 [(0, .ref (ad 2 k))] := hl
  have hx := hC.1
  have hb := hC.2.1
  refine lv_aload_n hx hb d_Fun_fails_0 rfl (lv_at hl 0 rfl) ?_
  refine zget hC hd (e_f2 hq hk) rfl i_Choice 3 (by decide) q_279 (Or.inl rfl) (v := .int (xi Z 12 k)) rfl d_Fun_fails_1 ?_
  exact zfz hC hd hr hlk d_Fun_fails_4 hfb rfl rfl
set_option maxHeartbeats 4000000 in
theorem c_Fun_fails3 (l : Launch) (G : Gt) (ad : Nat → Nat → Nat) (ow : Nat → Nat × Nat) (Z : Zt) (k : Nat) (hq : k < xn Z 0 2) (hk : xn Z 1 k = 3) (hfb : xi Z 12 k = 0 ∨ xi Z 12 k = 1) : Met l y_Fun_fails w_Fun_fails ({ frames := 0, cells := 0, slots := 0, locals := 0 }) (zPc G ad ow Z [.ref (ad 2 k)]) (Qd G ad ow Z (some (.int (xi Z 12 k)))) 0 0 (zA G) := by
  refine zopen (cc := b_Fun_fails) (maxL := 1) (ret := (some FieldType.boolean)) (by decide) rfl (Nat.le_of_ble_eq_true rfl) ?_
  intro p e s m below meth c ls hC hr hlk hnm hd hl
  have hC : Cx G p c m s _ "KeyGraph$Function" b_Fun_fails 1 := hC
  have hl : lv_has ls 1 [(0, .ref (ad 2 k))] := hl
  have hx := hC.1
  have hb := hC.2.1
  refine lv_aload_n hx hb d_Fun_fails_0 rfl (lv_at hl 0 rfl) ?_
  refine zget hC hd (e_f3 hq hk) rfl i_Quot 3 (by decide) q_279 (Or.inl rfl) (v := .int (xi Z 12 k)) rfl d_Fun_fails_1 ?_
  exact zfz hC hd hr hlk d_Fun_fails_4 hfb rfl rfl
set_option maxHeartbeats 4000000 in
theorem c_Fun_fails4 (l : Launch) (G : Gt) (ad : Nat → Nat → Nat) (ow : Nat → Nat × Nat) (Z : Zt) (k : Nat) (hq : k < xn Z 0 2) (hk : xn Z 1 k = 4) (hfb : xi Z 12 k = 0 ∨ xi Z 12 k = 1) : Met l y_Fun_fails w_Fun_fails ({ frames := 0, cells := 0, slots := 0, locals := 0 }) (zPc G ad ow Z [.ref (ad 2 k)]) (Qd G ad ow Z (some (.int (xi Z 12 k)))) 0 0 (zA G) := by
  refine zopen (cc := b_Fun_fails) (maxL := 1) (ret := (some FieldType.boolean)) (by decide) rfl (Nat.le_of_ble_eq_true rfl) ?_
  intro p e s m below meth c ls hC hr hlk hnm hd hl
  have hC : Cx G p c m s _ "KeyGraph$Function" b_Fun_fails 1 := hC
  have hl : lv_has ls 1 [(0, .ref (ad 2 k))] := hl
  have hx := hC.1
  have hb := hC.2.1
  refine lv_aload_n hx hb d_Fun_fails_0 rfl (lv_at hl 0 rfl) ?_
  refine zget hC hd (e_f4 hq hk) rfl i_Sum 3 (by decide) q_279 (Or.inl rfl) (v := .int (xi Z 12 k)) rfl d_Fun_fails_1 ?_
  exact zfz hC hd hr hlk d_Fun_fails_4 hfb rfl rfl
set_option maxHeartbeats 4000000 in
theorem c_Fun_fails5 (l : Launch) (G : Gt) (ad : Nat → Nat → Nat) (ow : Nat → Nat × Nat) (Z : Zt) (k : Nat) (hq : k < xn Z 0 2) (hk : xn Z 1 k = 5) (hfb : xi Z 12 k = 0 ∨ xi Z 12 k = 1) : Met l y_Fun_fails w_Fun_fails ({ frames := 0, cells := 0, slots := 0, locals := 0 }) (zPc G ad ow Z [.ref (ad 2 k)]) (Qd G ad ow Z (some (.int (xi Z 12 k)))) 0 0 (zA G) := by
  refine zopen (cc := b_Fun_fails) (maxL := 1) (ret := (some FieldType.boolean)) (by decide) rfl (Nat.le_of_ble_eq_true rfl) ?_
  intro p e s m below meth c ls hC hr hlk hnm hd hl
  have hC : Cx G p c m s _ "KeyGraph$Function" b_Fun_fails 1 := hC
  have hl : lv_has ls 1 [(0, .ref (ad 2 k))] := hl
  have hx := hC.1
  have hb := hC.2.1
  refine lv_aload_n hx hb d_Fun_fails_0 rfl (lv_at hl 0 rfl) ?_
  refine zget hC hd (e_f5 hq hk) rfl i_Great 3 (by decide) q_279 (Or.inl rfl) (v := .int (xi Z 12 k)) rfl d_Fun_fails_1 ?_
  exact zfz hC hd hr hlk d_Fun_fails_4 hfb rfl rfl
set_option maxHeartbeats 4000000 in
theorem c_Sum_with0 (l : Launch) (G : Gt) (ad : Nat → Nat → Nat) (ow : Nat → Nat × Nat) (Z : Zt) (k : Nat) (hq : k < xn Z 0 2) (hk : xn Z 1 k = 0) (x : Int64) : Met l y_Sum_with w_Sum_with ({ frames := 0, cells := 0, slots := 0, locals := 0 }) (zPc G ad ow Z [.ref (ad 2 k), .long x]) (Qd G ad ow (x_with Z k x) (none)) 0 0 (zA G) := by
  refine zopen (cc := b_Sum_with) (maxL := 3) (ret := none) (by decide) rfl (Nat.le_of_ble_eq_true rfl) ?_
  intro p e s m below meth c ls hC hr hlk hnm hd hl
  have hC : Cx G p c m s _ "KeyGraph$Sum" b_Sum_with 3 := hC
  have hl : lv_has ls 3 [(0, .ref (ad 2 k)), (1, .long x)] := hl
  have hx := hC.1
  have hb := hC.2.1
  refine lv_aload_n hx hb d_Sum_with_0 rfl (lv_at hl 0 rfl) ?_
  refine lv_dup hx hb d_Sum_with_1 rfl ?_
  refine zget hC hd (e_f0 hq hk) rfl i_Sum 2 (by decide) q_268 (Or.inr q_269) (v := .long (xl Z 2 k)) rfl d_Sum_with_2 ?_
  refine lv_lload_n hx hb d_Sum_with_5 rfl (lv_at hl 1 rfl) ?_
  refine lv_ladd hx hb d_Sum_with_6 ?_
  refine zput (Z' := (sl Z 2 k ((xl Z 2 k) + x))) (v := .long ((xl Z 2 k) + x)) hC hd (e_f0 hq hk) rfl i_Sum t_Sum t_Sum_ok n_Sum 2 (by decide) q_268 (Or.inr q_269) rfl rfl rfl (Nat.le_of_ble_eq_true rfl) (u_f0_fv hq hk) d_Sum_with_7 (fun H locs hd => ?_)
  exact zfv hC hd hr hlk d_Sum_with_10 (by unfold x_with; rw [hk]; (repeat (first | (rw [if_pos]; rotate_left; first | assumption | decide) | (rw [if_neg]; rotate_left; first | assumption | decide))) <;> (try rfl))
set_option maxHeartbeats 4000000 in
theorem c_Sum_with4 (l : Launch) (G : Gt) (ad : Nat → Nat → Nat) (ow : Nat → Nat × Nat) (Z : Zt) (k : Nat) (hq : k < xn Z 0 2) (hk : xn Z 1 k = 4) (x : Int64) : Met l y_Sum_with w_Sum_with ({ frames := 0, cells := 0, slots := 0, locals := 0 }) (zPc G ad ow Z [.ref (ad 2 k), .long x]) (Qd G ad ow (x_with Z k x) (none)) 0 0 (zA G) := by
  refine zopen (cc := b_Sum_with) (maxL := 3) (ret := none) (by decide) rfl (Nat.le_of_ble_eq_true rfl) ?_
  intro p e s m below meth c ls hC hr hlk hnm hd hl
  have hC : Cx G p c m s _ "KeyGraph$Sum" b_Sum_with 3 := hC
  have hl : lv_has ls 3 [(0, .ref (ad 2 k)), (1, .long x)] := hl
  have hx := hC.1
  have hb := hC.2.1
  refine lv_aload_n hx hb d_Sum_with_0 rfl (lv_at hl 0 rfl) ?_
  refine lv_dup hx hb d_Sum_with_1 rfl ?_
  refine zget hC hd (e_f4 hq hk) rfl i_Sum 2 (by decide) q_268 (Or.inr q_269) (v := .long (xl Z 2 k)) rfl d_Sum_with_2 ?_
  refine lv_lload_n hx hb d_Sum_with_5 rfl (lv_at hl 1 rfl) ?_
  refine lv_ladd hx hb d_Sum_with_6 ?_
  refine zput (Z' := (sl Z 2 k ((xl Z 2 k) + x))) (v := .long ((xl Z 2 k) + x)) hC hd (e_f4 hq hk) rfl i_Sum t_Sum t_Sum_ok n_Sum 2 (by decide) q_268 (Or.inr q_269) rfl rfl rfl (Nat.le_of_ble_eq_true rfl) (u_f4_fv hq hk) d_Sum_with_7 (fun H locs hd => ?_)
  exact zfv hC hd hr hlk d_Sum_with_10 (by unfold x_with; rw [hk]; (repeat (first | (rw [if_pos]; rotate_left; first | assumption | decide) | (rw [if_neg]; rotate_left; first | assumption | decide))) <;> (try rfl))
set_option maxHeartbeats 4000000 in
theorem c_First_with (l : Launch) (G : Gt) (ad : Nat → Nat → Nat) (ow : Nat → Nat × Nat) (Z : Zt) (k : Nat) (hq : k < xn Z 0 2) (hk : xn Z 1 k = 1) (x : Int64) : Met l y_First_with w_First_with ({ frames := 0, cells := 0, slots := 0, locals := 0 }) (zPc G ad ow Z [.ref (ad 2 k), .long x]) (Qd G ad ow (x_with Z k x) (none)) 0 0 (zA G) := by
  refine zopen (cc := b_First_with) (maxL := 3) (ret := none) (by decide) rfl (Nat.le_of_ble_eq_true rfl) ?_
  intro p e s m below meth c ls hC hr hlk hnm hd hl
  have hC : Cx G p c m s _ "KeyGraph$First" b_First_with 3 := hC
  have hl : lv_has ls 3 [(0, .ref (ad 2 k)), (1, .long x)] := hl
  have hx := hC.1
  have hb := hC.2.1
  refine lv_aload_n hx hb d_First_with_0 rfl (lv_at hl 0 rfl) ?_
  refine lv_lload_n hx hb d_First_with_1 rfl (lv_at hl 1 rfl) ?_
  refine zput (Z' := (sl Z 2 k x)) (v := .long x) hC hd (e_f1 hq hk) rfl i_First t_First t_First_ok n_First 2 (by decide) q_266 (Or.inr q_267) rfl rfl rfl (Nat.le_of_ble_eq_true rfl) (u_f1_fv hq hk) d_First_with_2 (fun H locs hd => ?_)
  refine lv_lload_n hx hb d_First_with_5 rfl (lv_at hl 1 rfl) ?_
  refine lv_lconst (v := 0) hx hb d_First_with_6 (by decide) ?_
  refine W.lcmp hx hb d_First_with_7 ?_
  refine lv_if_eq (tgt := 19) hx hb d_First_with_8 (by decide) (fun c8 => ?_) (fun c8 => ?_)
  · simp only [ne_eq, lg_cmp_eq, lg_cmp_le, lg_cmp_lt, lg_cmp_ge, lg_cmp_gt] at c8
    exact zfv hC hd hr hlk d_First_with_19 (by unfold x_with; rw [hk]; (repeat (first | (rw [if_pos]; rotate_left; first | assumption | decide) | (rw [if_neg]; rotate_left; first | assumption | decide))) <;> (try rfl))
  · simp only [ne_eq, lg_cmp_eq, lg_cmp_le, lg_cmp_lt, lg_cmp_ge, lg_cmp_gt] at c8
    refine lv_aload_n hx hb d_First_with_11 rfl (lv_at hl 0 rfl) ?_
    refine lv_aload_n hx hb d_First_with_12 rfl (lv_at hl 0 rfl) ?_
    refine zget hC hd (e_f1 hq hk) rfl i_First 1 (by decide) q_260 (Or.inr q_261) (v := .int (xi Z 11 k)) rfl d_First_with_13 ?_
    refine zput (Z' := (si (sl Z 2 k x) 10 k (xi Z 11 k))) (v := .int (xi Z 11 k)) hC hd (e_f1 hq hk) rfl i_First t_First t_First_ok n_First 0 (by decide) q_253 (Or.inr q_254) rfl rfl rfl (Nat.le_of_ble_eq_true rfl) (u_f1_many hq hk) d_First_with_16 (fun H locs hd => ?_)
    exact zfv hC hd hr hlk d_First_with_19 (by unfold x_with; rw [hk]; (repeat (first | (rw [if_pos]; rotate_left; first | assumption | decide) | (rw [if_neg]; rotate_left; first | assumption | decide))) <;> (try rfl))
set_option maxHeartbeats 4000000 in
theorem c_Choice_with (l : Launch) (G : Gt) (ad : Nat → Nat → Nat) (ow : Nat → Nat × Nat) (Z : Zt) (k : Nat) (hq : k < xn Z 0 2) (hk : xn Z 1 k = 2) (x : Int64) : Met l y_Choice_with w_Choice_with ({ frames := 0, cells := 0, slots := 0, locals := 0 }) (zPc G ad ow Z [.ref (ad 2 k), .long x]) (Qd G ad ow (x_with Z k x) (none)) 0 0 (zA G) := by
  refine zopen (cc := b_Choice_with) (maxL := 3) (ret := none) (by decide) rfl (Nat.le_of_ble_eq_true rfl) ?_
  intro p e s m below meth c ls hC hr hlk hnm hd hl
  have hC : Cx G p c m s _ "KeyGraph$Choice" b_Choice_with 3 := hC
  have hl : lv_has ls 3 [(0, .ref (ad 2 k)), (1, .long x)] := hl
  have hx := hC.1
  have hb := hC.2.1
  refine lv_aload_n hx hb d_Choice_with_0 rfl (lv_at hl 0 rfl) ?_
  refine lv_lload_n hx hb d_Choice_with_1 rfl (lv_at hl 1 rfl) ?_
  refine zput (Z' := (sl Z 2 k x)) (v := .long x) hC hd (e_f2 hq hk) rfl i_Choice t_Choice t_Choice_ok n_Choice 2 (by decide) q_275 (Or.inr q_276) rfl rfl rfl (Nat.le_of_ble_eq_true rfl) (u_f2_fv hq hk) d_Choice_with_2 (fun H locs hd => ?_)
  exact zfv hC hd hr hlk d_Choice_with_5 (by unfold x_with; rw [hk]; (repeat (first | (rw [if_pos]; rotate_left; first | assumption | decide) | (rw [if_neg]; rotate_left; first | assumption | decide))) <;> (try rfl))
set_option maxHeartbeats 4000000 in
theorem c_Great_with (l : Launch) (G : Gt) (ad : Nat → Nat → Nat) (ow : Nat → Nat × Nat) (Z : Zt) (k : Nat) (hq : k < xn Z 0 2) (hk : xn Z 1 k = 5) (x : Int64) : Met l y_Great_with w_Great_with ({ frames := 0, cells := 0, slots := 0, locals := 0 }) (zPc G ad ow Z [.ref (ad 2 k), .long x]) (Qd G ad ow (x_with Z k x) (none)) 0 0 (zA G) := by
  refine zopen (cc := b_Great_with) (maxL := 3) (ret := none) (by decide) rfl (Nat.le_of_ble_eq_true rfl) ?_
  intro p e s m below meth c ls hC hr hlk hnm hd hl
  have hC : Cx G p c m s _ "KeyGraph$Greatest" b_Great_with 3 := hC
  have hl : lv_has ls 3 [(0, .ref (ad 2 k)), (1, .long x)] := hl
  have hx := hC.1
  have hb := hC.2.1
  refine lv_aload_n hx hb d_Great_with_0 rfl (lv_at hl 0 rfl) ?_
  refine lv_aload_n hx hb d_Great_with_1 rfl (lv_at hl 0 rfl) ?_
  refine zget hC hd (e_f5 hq hk) rfl i_Great 1 (by decide) q_262 (Or.inr q_263) (v := .int (xi Z 11 k)) rfl d_Great_with_2 ?_
  refine lv_if_eq (tgt := 17) hx hb d_Great_with_5 (by decide) (fun c5 => ?_) (fun c5 => ?_)
  · refine lv_lload_n hx hb d_Great_with_17 rfl (lv_at hl 1 rfl) ?_
    refine lv_goto (tgt := 25) hx hb d_Great_with_18 (by decide) ?_
    refine zput (Z' := (sl Z 2 k x)) (v := .long x) hC hd (e_f5 hq hk) rfl i_Great t_Great t_Great_ok n_Great 2 (by decide) q_273 (Or.inr q_274) rfl rfl rfl (Nat.le_of_ble_eq_true rfl) (u_f5_fv hq hk) d_Great_with_25 (fun H locs hd => ?_)
    exact zfv hC hd hr hlk d_Great_with_28 (by unfold x_with; rw [hk]; (repeat (first | (rw [if_pos]; rotate_left; first | assumption | decide) | (rw [if_neg]; rotate_left; first | assumption | decide))) <;> (try rfl))
  · refine lv_lload_n hx hb d_Great_with_8 rfl (lv_at hl 1 rfl) ?_
    refine lv_aload_n hx hb d_Great_with_9 rfl (lv_at hl 0 rfl) ?_
    refine zget hC hd (e_f5 hq hk) rfl i_Great 2 (by decide) q_273 (Or.inr q_274) (v := .long (xl Z 2 k)) rfl d_Great_with_10 ?_
    refine W.lcmp hx hb d_Great_with_13 ?_
    refine lv_if_le (tgt := 21) hx hb d_Great_with_14 (by decide) (fun c14 => ?_) (fun c14 => ?_)
    · simp only [ne_eq, lg_cmp_eq, lg_cmp_le, lg_cmp_lt, lg_cmp_ge, lg_cmp_gt] at c14
      refine lv_aload_n hx hb d_Great_with_21 rfl (lv_at hl 0 rfl) ?_
      refine zget hC hd (e_f5 hq hk) rfl i_Great 2 (by decide) q_273 (Or.inr q_274) (v := .long (xl Z 2 k)) rfl d_Great_with_22 ?_
      refine zput (Z' := (sl Z 2 k (xl Z 2 k))) (v := .long (xl Z 2 k)) hC hd (e_f5 hq hk) rfl i_Great t_Great t_Great_ok n_Great 2 (by decide) q_273 (Or.inr q_274) rfl rfl rfl (Nat.le_of_ble_eq_true rfl) (u_f5_fv hq hk) d_Great_with_25 (fun H locs hd => ?_)
      exact zfv hC hd hr hlk d_Great_with_28 (by unfold x_with; rw [hk]; (repeat (first | (rw [if_pos]; rotate_left; first | assumption | decide) | (rw [if_neg]; rotate_left; first | assumption | decide))) <;> (try rfl))
    · simp only [ne_eq, lg_cmp_eq, lg_cmp_le, lg_cmp_lt, lg_cmp_ge, lg_cmp_gt] at c14
      refine lv_lload_n hx hb d_Great_with_17 rfl (lv_at hl 1 rfl) ?_
      refine lv_goto (tgt := 25) hx hb d_Great_with_18 (by decide) ?_
      refine zput (Z' := (sl Z 2 k x)) (v := .long x) hC hd (e_f5 hq hk) rfl i_Great t_Great t_Great_ok n_Great 2 (by decide) q_273 (Or.inr q_274) rfl rfl rfl (Nat.le_of_ble_eq_true rfl) (u_f5_fv hq hk) d_Great_with_25 (fun H locs hd => ?_)
      exact zfv hC hd hr hlk d_Great_with_28 (by unfold x_with; rw [hk]; (repeat (first | (rw [if_pos]; rotate_left; first | assumption | decide) | (rw [if_neg]; rotate_left; first | assumption | decide))) <;> (try rfl))
