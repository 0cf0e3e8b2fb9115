theorem x_with_xn (Z : Zt) (k : Nat) (x : Int64) (t i : Nat) : xn (x_with Z k x) t i = xn Z t i := by
  unfold x_with; repeat' split
  all_goals rfl
theorem x_take_xn (Z : Zt) (k : Nat) (x : Int64) (t i : Nat) : xn (x_take Z k x) t i = xn Z t i := by
  unfold x_take x_takeC
  split
  · repeat' split
    all_goals rfl
  · exact x_with_xn Z k x t i
theorem x_begin_xn (Z : Zt) (k n : Nat) (t i : Nat) : xn (x_begin Z k n) t i = xn Z t i := by
  unfold x_begin x_begin0; repeat' split
  all_goals rfl
theorem x_with_xc (Z : Zt) (k : Nat) (x : Int64) (c t i : Nat) : xc (x_with Z k x) c t i = xc Z c t i := by
  unfold x_with; repeat' split
  all_goals rfl
theorem x_take_xc (Z : Zt) (k : Nat) (x : Int64) (c t i : Nat) : xc (x_take Z k x) c t i = xc Z c t i := by
  unfold x_take x_takeC
  split
  · repeat' split
    all_goals rfl
  · exact x_with_xc Z k x c t i
theorem x_begin_xc (Z : Zt) (k n : Nat) (c t i : Nat) : xc (x_begin Z k n) c t i = xc Z c t i := by
  unfold x_begin x_begin0; repeat' split
  all_goals rfl

set_option maxHeartbeats 4000000 in
theorem c_Quot_with (l : Launch) (G : Gt) (ad : Nat → Nat → Nat) (ow : Nat → Nat × Nat) (Z : Zt) (k : Nat) (hq : k < xn Z 0 2) (hk : xn Z 1 k = 3) (x : Int64) : Met l y_Quot_with w_Quot_with ({ frames := 0, cells := 0, slots := 0, locals := 0 }) (zPc G ad ow Z [.ref (ad 2 k), .long x]) (Qd G ad ow (x_with Z k x) (none)) 0 0 (zA G) := by
  refine zopen (cc := b_Quot_with) (maxL := 3) (ret := none) (by decide) rfl (Nat.le_of_ble_eq_true rfl) ?_
  intro p e s m below meth c ls hC hr hlk hnm hd hl
  have hC : Cx G p c m s _ "KeyGraph$Quotient" b_Quot_with 3 := hC
  have hl : lv_has ls 3 [(0, .ref (ad 2 k)), (1, .long x)] := hl
  have hx := hC.1
  have hb := hC.2.1
  refine lv_aload_n hx hb d_Quot_with_0 rfl (lv_at hl 0 rfl) ?_
  refine zget hC hd (e_f3 hq hk) rfl i_Quot 1 (by decide) q_257 (Or.inr q_258) (v := .int (xi Z 11 k)) rfl d_Quot_with_1 ?_
  refine lv_if_ne (tgt := 13) hx hb d_Quot_with_4 (by decide) (fun c4 => ?_) (fun c4 => ?_)
  · refine lv_aload_n hx hb d_Quot_with_13 rfl (lv_at hl 0 rfl) ?_
    refine lv_lload_n hx hb d_Quot_with_14 rfl (lv_at hl 1 rfl) ?_
    refine lv_lconst (v := 0) hx hb d_Quot_with_15 (by decide) ?_
    refine W.lcmp hx hb d_Quot_with_16 ?_
    refine lv_if_ne (tgt := 24) hx hb d_Quot_with_17 (by decide) (fun c17 => ?_) (fun c17 => ?_)
    · simp only [ne_eq, lg_cmp_eq, lg_cmp_le, lg_cmp_lt, lg_cmp_ge, lg_cmp_gt] at c17
      refine lv_iconst (v := 0) hx hb d_Quot_with_24 (by decide) ?_
      refine zput (Z' := (si Z 12 k 0)) (v := .int 0) hC hd (e_f3 hq hk) rfl i_Quot t_Quot t_Quot_ok n_Quot 3 (by decide) q_280 (Or.inr q_281) rfl (zbool (by decide)) (zboolf (by decide)) (Nat.le_of_ble_eq_true rfl) (u_f3_failed hq hk) d_Quot_with_25 (fun H locs hd => ?_)
      refine lv_aload_n hx hb d_Quot_with_28 rfl (lv_at hl 0 rfl) ?_
      refine lv_aload_n hx hb d_Quot_with_29 rfl (lv_at hl 0 rfl) ?_
      refine zget hC hd (e_f3 hq hk) rfl i_Quot 3 (by decide) q_280 (Or.inr q_281) (v := .int (xi (si Z 12 k 0) 12 k)) rfl d_Quot_with_30 ?_
      refine lv_topi (fun z ez => ?_)
      rw [xi_si, if_pos ⟨rfl, rfl⟩] at ez
      subst ez
      refine lv_if_eq (tgt := 40) hx hb d_Quot_with_33 (by decide) (fun _ => ?_) (fun c => absurd c (by decide))
      refine lv_lload_n hx hb d_Quot_with_40 rfl (lv_at hl 1 rfl) ?_
      refine lv_ldc2 (v := (-1)) hx hb hC.2.2.2.1 (hC.2.2.2.2.1 _ q_528) d_Quot_with_41 ?_
      refine W.lcmp hx hb d_Quot_with_44 ?_
      refine lv_if_ne (tgt := 56) hx hb d_Quot_with_45 (by decide) (fun c45 => ?_) (fun c45 => ?_)
      · simp only [ne_eq, lg_cmp_eq, lg_cmp_le, lg_cmp_lt, lg_cmp_ge, lg_cmp_gt] at c45
        refine lv_aload_n hx hb d_Quot_with_56 rfl (lv_at hl 0 rfl) ?_
        refine zget hC hd (e_f3 hq hk) rfl i_Quot 2 (by decide) q_270 (Or.inr q_271) (v := .long (xl Z 2 k)) rfl d_Quot_with_57 ?_
        refine lv_lload_n hx hb d_Quot_with_60 rfl (lv_at hl 1 rfl) ?_
        refine lv_ldiv hx hb d_Quot_with_61 c17 ?_
        refine zput (Z' := (sl (si Z 12 k 0) 2 k ((xl Z 2 k) / x))) (v := .long ((xl Z 2 k) / x)) hC hd (e_f3 hq hk) rfl i_Quot t_Quot t_Quot_ok n_Quot 2 (by decide) q_270 (Or.inr q_271) rfl rfl rfl (Nat.le_of_ble_eq_true rfl) (u_f3_fv hq hk) d_Quot_with_62 (fun H locs hd => ?_)
        exact zfv hC hd hr hlk d_Quot_with_65 (by unfold x_with x_qv; rw [hk]; (repeat (first | (rw [if_pos]; rotate_left; first | assumption | decide) | (rw [if_neg]; rotate_left; first | assumption | decide))) <;> (try rfl))
      · simp only [ne_eq, lg_cmp_eq, lg_cmp_le, lg_cmp_lt, lg_cmp_ge, lg_cmp_gt] at c45
        refine lv_aload_n hx hb d_Quot_with_48 rfl (lv_at hl 0 rfl) ?_
        refine zget hC hd (e_f3 hq hk) rfl i_Quot 2 (by decide) q_270 (Or.inr q_271) (v := .long (xl Z 2 k)) rfl d_Quot_with_49 ?_
        refine lv_lneg hx hb d_Quot_with_52 ?_
        refine lv_goto (tgt := 62) hx hb d_Quot_with_53 (by decide) ?_
        refine zput (Z' := (sl (si Z 12 k 0) 2 k (-(xl Z 2 k)))) (v := .long (-(xl Z 2 k))) hC hd (e_f3 hq hk) rfl i_Quot t_Quot t_Quot_ok n_Quot 2 (by decide) q_270 (Or.inr q_271) rfl rfl rfl (Nat.le_of_ble_eq_true rfl) (u_f3_fv hq hk) d_Quot_with_62 (fun H locs hd => ?_)
        exact zfv hC hd hr hlk d_Quot_with_65 (by unfold x_with x_qv; rw [hk]; (repeat (first | (rw [if_pos]; rotate_left; first | assumption | decide) | (rw [if_neg]; rotate_left; first | assumption | decide))) <;> (try rfl))
    · simp only [ne_eq, lg_cmp_eq, lg_cmp_le, lg_cmp_lt, lg_cmp_ge, lg_cmp_gt] at c17
      refine lv_iconst (v := 1) hx hb d_Quot_with_20 (by decide) ?_
      refine lv_goto (tgt := 25) hx hb d_Quot_with_21 (by decide) ?_
      refine zput (Z' := (si Z 12 k 1)) (v := .int 1) hC hd (e_f3 hq hk) rfl i_Quot t_Quot t_Quot_ok n_Quot 3 (by decide) q_280 (Or.inr q_281) rfl (zbool (by decide)) (zboolf (by decide)) (Nat.le_of_ble_eq_true rfl) (u_f3_failed hq hk) d_Quot_with_25 (fun H locs hd => ?_)
      refine lv_aload_n hx hb d_Quot_with_28 rfl (lv_at hl 0 rfl) ?_
      refine lv_aload_n hx hb d_Quot_with_29 rfl (lv_at hl 0 rfl) ?_
      refine zget hC hd (e_f3 hq hk) rfl i_Quot 3 (by decide) q_280 (Or.inr q_281) (v := .int (xi (si Z 12 k 1) 12 k)) rfl d_Quot_with_30 ?_
      refine lv_topi (fun z ez => ?_)
      rw [xi_si, if_pos ⟨rfl, rfl⟩] at ez
      subst ez
      refine lv_if_eq (tgt := 40) hx hb d_Quot_with_33 (by decide) (fun c => absurd c (by decide)) (fun _ => ?_)
      refine lv_lconst (v := 0) hx hb d_Quot_with_36 (by decide) ?_
      refine lv_goto (tgt := 62) hx hb d_Quot_with_37 (by decide) ?_
      refine zput (Z' := (sl (si Z 12 k 1) 2 k 0)) (v := .long 0) hC hd (e_f3 hq hk) rfl i_Quot t_Quot t_Quot_ok n_Quot 2 (by decide) q_270 (Or.inr q_271) rfl rfl rfl (Nat.le_of_ble_eq_true rfl) (u_f3_fv hq hk) d_Quot_with_62 (fun H locs hd => ?_)
      exact zfv hC hd hr hlk d_Quot_with_65 (by unfold x_with x_qv; rw [hk]; (repeat (first | (rw [if_pos]; rotate_left; first | assumption | decide) | (rw [if_neg]; rotate_left; first | assumption | decide))) <;> (try rfl))
  · refine lv_aload_n hx hb d_Quot_with_7 rfl (lv_at hl 0 rfl) ?_
    refine lv_lload_n hx hb d_Quot_with_8 rfl (lv_at hl 1 rfl) ?_
    refine zput (Z' := (sl Z 2 k x)) (v := .long x) hC hd (e_f3 hq hk) rfl i_Quot t_Quot t_Quot_ok n_Quot 2 (by decide) q_270 (Or.inr q_271) rfl rfl rfl (Nat.le_of_ble_eq_true rfl) (u_f3_fv hq hk) d_Quot_with_9 (fun H locs hd => ?_)
    exact zfv hC hd hr hlk d_Quot_with_12 (by unfold x_with x_qv; rw [hk]; (repeat (first | (rw [if_pos]; rotate_left; first | assumption | decide) | (rw [if_neg]; rotate_left; first | assumption | decide))) <;> (try rfl))
set_option maxHeartbeats 4000000 in
theorem c_Fun_take0 (l : Launch) (G : Gt) (ad : Nat → Nat → Nat) (ow : Nat → Nat × Nat) (Z : Zt) (k : Nat) (hq : k < xn Z 0 2) (hk : xn Z 1 k = 0) (x : Int64) : Met l y_Fun_take w_Fun_take ({ frames := 1, cells := 0, slots := 0, locals := 22 }) (zPc G ad ow Z [.ref (ad 2 k), .long x]) (Qd G ad ow (x_take Z k x) (none)) 0 0 (zA G) := by
  refine zopen (cc := b_Fun_take) (maxL := 3) (ret := none) (by decide) rfl (Nat.le_of_ble_eq_true rfl) ?_
  intro p e s m below meth c ls hC hr hlk hnm hd hl
  have hC : Cx G p c m s _ "KeyGraph$Function" b_Fun_take 3 := hC
  have hl : lv_has ls 3 [(0, .ref (ad 2 k)), (1, .long x)] := hl
  have hx := hC.1
  have hb := hC.2.1
  refine lv_aload_n hx hb d_Fun_take_0 rfl (lv_at hl 0 rfl) ?_
  refine lv_lload_n hx hb d_Fun_take_1 rfl (lv_at hl 1 rfl) ?_
  refine zb_v hd (zrunA (owner := "KeyGraph$Function") (n := 1) (rest := []) hC hd (e_f0 hq hk) rfl (c_Sum_with0 l G ad ow Z k hq hk x) q_515 q_517 z_516 q_529 q_530 q_13 q_531 rfl rfl rfl (by decide +kernel) ⟨by decide, by decide⟩ rfl hl.1 (Nat.le_of_ble_eq_true rfl) d_Fun_take_2 ⟨by decide, by decide⟩) (fun H locs hd => ?_)
  have hq2 : k < xn (x_with Z k x) 0 2 := by rw [x_with_xn]; exact hq
  have hk2 : xn (x_with Z k x) 1 k = 0 := by rw [x_with_xn]; exact hk
  refine lv_aload_n hx hb d_Fun_take_5 rfl (lv_at hl 0 rfl) ?_
  refine lv_dup hx hb d_Fun_take_6 rfl ?_
  refine zget hC hd (e_f0 hq2 hk2) rfl i_Sum 1 (by decide) q_259 (Or.inl rfl) (v := .int (xi (x_with Z k x) 11 k)) rfl d_Fun_take_7 ?_
  refine lv_iconst (v := 1) hx hb d_Fun_take_10 (by decide) ?_
  refine lv_iadd hx hb d_Fun_take_11 ?_
  refine zput (Z' := (si (x_with Z k x) 11 k ((xi (x_with Z k x) 11 k) + 1))) (v := .int ((xi (x_with Z k x) 11 k) + 1)) hC hd (e_f0 hq2 hk2) rfl i_Sum t_Sum t_Sum_ok n_Sum 1 (by decide) q_259 (Or.inl rfl) rfl rfl rfl (Nat.le_of_ble_eq_true rfl) (u_f0_place hq2 hk2) d_Fun_take_12 (fun H locs hd => ?_)
  exact zfv hC hd hr hlk d_Fun_take_15 (by unfold x_take; rw [hk]; (repeat (first | (rw [if_pos]; rotate_left; first | assumption | decide) | (rw [if_neg]; rotate_left; first | assumption | decide))) <;> (try rfl))
set_option maxHeartbeats 4000000 in
theorem c_Fun_take1 (l : Launch) (G : Gt) (ad : Nat → Nat → Nat) (ow : Nat → Nat × Nat) (Z : Zt) (k : Nat) (hq : k < xn Z 0 2) (hk : xn Z 1 k = 1) (x : Int64) : Met l y_Fun_take w_Fun_take ({ frames := 1, cells := 0, slots := 0, locals := 22 }) (zPc G ad ow Z [.ref (ad 2 k), .long x]) (Qd G ad ow (x_take Z k x) (none)) 0 0 (zA G) := by
  refine zopen (cc := b_Fun_take) (maxL := 3) (ret := none) (by decide) rfl (Nat.le_of_ble_eq_true rfl) ?_
  intro p e s m below meth c ls hC hr hlk hnm hd hl
  have hC : Cx G p c m s _ "KeyGraph$Function" b_Fun_take 3 := hC
  have hl : lv_has ls 3 [(0, .ref (ad 2 k)), (1, .long x)] := hl
  have hx := hC.1
  have hb := hC.2.1
  refine lv_aload_n hx hb d_Fun_take_0 rfl (lv_at hl 0 rfl) ?_
  refine lv_lload_n hx hb d_Fun_take_1 rfl (lv_at hl 1 rfl) ?_
  refine zb_v hd (zrunA (owner := "KeyGraph$Function") (n := 1) (rest := []) hC hd (e_f1 hq hk) rfl (c_First_with l G ad ow Z k hq hk x) q_515 q_517 z_516 q_519 q_520 q_14 q_521 rfl rfl rfl (by decide +kernel) ⟨by decide, by decide⟩ rfl hl.1 (Nat.le_of_ble_eq_true rfl) d_Fun_take_2 ⟨by decide, by decide⟩) (fun H locs hd => ?_)
  have hq2 : k < xn (x_with Z k x) 0 2 := by rw [x_with_xn]; exact hq
  have hk2 : xn (x_with Z k x) 1 k = 1 := by rw [x_with_xn]; exact hk
  refine lv_aload_n hx hb d_Fun_take_5 rfl (lv_at hl 0 rfl) ?_
  refine lv_dup hx hb d_Fun_take_6 rfl ?_
  refine zget hC hd (e_f1 hq2 hk2) rfl i_First 1 (by decide) q_259 (Or.inl rfl) (v := .int (xi (x_with Z k x) 11 k)) rfl d_Fun_take_7 ?_
  refine lv_iconst (v := 1) hx hb d_Fun_take_10 (by decide) ?_
  refine lv_iadd hx hb d_Fun_take_11 ?_
  refine zput (Z' := (si (x_with Z k x) 11 k ((xi (x_with Z k x) 11 k) + 1))) (v := .int ((xi (x_with Z k x) 11 k) + 1)) hC hd (e_f1 hq2 hk2) rfl i_First t_First t_First_ok n_First 1 (by decide) q_259 (Or.inl rfl) rfl rfl rfl (Nat.le_of_ble_eq_true rfl) (u_f1_place hq2 hk2) d_Fun_take_12 (fun H locs hd => ?_)
  exact zfv hC hd hr hlk d_Fun_take_15 (by unfold x_take; rw [hk]; (repeat (first | (rw [if_pos]; rotate_left; first | assumption | decide) | (rw [if_neg]; rotate_left; first | assumption | decide))) <;> (try rfl))
set_option maxHeartbeats 4000000 in
theorem c_Fun_take3 (l : Launch) (G : Gt) (ad : Nat → Nat → Nat) (ow : Nat → Nat × Nat) (Z : Zt) (k : Nat) (hq : k < xn Z 0 2) (hk : xn Z 1 k = 3) (x : Int64) : Met l y_Fun_take w_Fun_take ({ frames := 1, cells := 0, slots := 0, locals := 22 }) (zPc G ad ow Z [.ref (ad 2 k), .long x]) (Qd G ad ow (x_take Z k x) (none)) 0 0 (zA G) := by
  refine zopen (cc := b_Fun_take) (maxL := 3) (ret := none) (by decide) rfl (Nat.le_of_ble_eq_true rfl) ?_
  intro p e s m below meth c ls hC hr hlk hnm hd hl
  have hC : Cx G p c m s _ "KeyGraph$Function" b_Fun_take 3 := hC
  have hl : lv_has ls 3 [(0, .ref (ad 2 k)), (1, .long x)] := hl
  have hx := hC.1
  have hb := hC.2.1
  refine lv_aload_n hx hb d_Fun_take_0 rfl (lv_at hl 0 rfl) ?_
  refine lv_lload_n hx hb d_Fun_take_1 rfl (lv_at hl 1 rfl) ?_
  refine zb_v hd (zrunA (owner := "KeyGraph$Function") (n := 1) (rest := []) hC hd (e_f3 hq hk) rfl (c_Quot_with l G ad ow Z k hq hk x) q_515 q_517 z_516 q_525 q_526 q_16 q_527 rfl rfl rfl (by decide +kernel) ⟨by decide, by decide⟩ rfl hl.1 (Nat.le_of_ble_eq_true rfl) d_Fun_take_2 ⟨by decide, by decide⟩) (fun H locs hd => ?_)
  have hq2 : k < xn (x_with Z k x) 0 2 := by rw [x_with_xn]; exact hq
  have hk2 : xn (x_with Z k x) 1 k = 3 := by rw [x_with_xn]; exact hk
  refine lv_aload_n hx hb d_Fun_take_5 rfl (lv_at hl 0 rfl) ?_
  refine lv_dup hx hb d_Fun_take_6 rfl ?_
  refine zget hC hd (e_f3 hq2 hk2) rfl i_Quot 1 (by decide) q_259 (Or.inl rfl) (v := .int (xi (x_with Z k x) 11 k)) rfl d_Fun_take_7 ?_
  refine lv_iconst (v := 1) hx hb d_Fun_take_10 (by decide) ?_
  refine lv_iadd hx hb d_Fun_take_11 ?_
  refine zput (Z' := (si (x_with Z k x) 11 k ((xi (x_with Z k x) 11 k) + 1))) (v := .int ((xi (x_with Z k x) 11 k) + 1)) hC hd (e_f3 hq2 hk2) rfl i_Quot t_Quot t_Quot_ok n_Quot 1 (by decide) q_259 (Or.inl rfl) rfl rfl rfl (Nat.le_of_ble_eq_true rfl) (u_f3_place hq2 hk2) d_Fun_take_12 (fun H locs hd => ?_)
  exact zfv hC hd hr hlk d_Fun_take_15 (by unfold x_take; rw [hk]; (repeat (first | (rw [if_pos]; rotate_left; first | assumption | decide) | (rw [if_neg]; rotate_left; first | assumption | decide))) <;> (try rfl))
set_option maxHeartbeats 4000000 in
theorem c_Fun_take4 (l : Launch) (G : Gt) (ad : Nat → Nat → Nat) (ow : Nat → Nat × Nat) (Z : Zt) (k : Nat) (hq : k < xn Z 0 2) (hk : xn Z 1 k = 4) (x : Int64) : Met l y_Fun_take w_Fun_take ({ frames := 1, cells := 0, slots := 0, locals := 22 }) (zPc G ad ow Z [.ref (ad 2 k), .long x]) (Qd G ad ow (x_take Z k x) (none)) 0 0 (zA G) := by
  refine zopen (cc := b_Fun_take) (maxL := 3) (ret := none) (by decide) rfl (Nat.le_of_ble_eq_true rfl) ?_
  intro p e s m below meth c ls hC hr hlk hnm hd hl
  have hC : Cx G p c m s _ "KeyGraph$Function" b_Fun_take 3 := hC
  have hl : lv_has ls 3 [(0, .ref (ad 2 k)), (1, .long x)] := hl
  have hx := hC.1
  have hb := hC.2.1
  refine lv_aload_n hx hb d_Fun_take_0 rfl (lv_at hl 0 rfl) ?_
  refine lv_lload_n hx hb d_Fun_take_1 rfl (lv_at hl 1 rfl) ?_
  refine zb_v hd (zrunA (owner := "KeyGraph$Function") (n := 1) (rest := []) hC hd (e_f4 hq hk) rfl (c_Sum_with4 l G ad ow Z k hq hk x) q_515 q_517 z_516 q_529 q_530 q_13 q_531 rfl rfl rfl (by decide +kernel) ⟨by decide, by decide⟩ rfl hl.1 (Nat.le_of_ble_eq_true rfl) d_Fun_take_2 ⟨by decide, by decide⟩) (fun H locs hd => ?_)
  have hq2 : k < xn (x_with Z k x) 0 2 := by rw [x_with_xn]; exact hq
  have hk2 : xn (x_with Z k x) 1 k = 4 := by rw [x_with_xn]; exact hk
  refine lv_aload_n hx hb d_Fun_take_5 rfl (lv_at hl 0 rfl) ?_
  refine lv_dup hx hb d_Fun_take_6 rfl ?_
  refine zget hC hd (e_f4 hq2 hk2) rfl i_Sum 1 (by decide) q_259 (Or.inl rfl) (v := .int (xi (x_with Z k x) 11 k)) rfl d_Fun_take_7 ?_
  refine lv_iconst (v := 1) hx hb d_Fun_take_10 (by decide) ?_
  refine lv_iadd hx hb d_Fun_take_11 ?_
  refine zput (Z' := (si (x_with Z k x) 11 k ((xi (x_with Z k x) 11 k) + 1))) (v := .int ((xi (x_with Z k x) 11 k) + 1)) hC hd (e_f4 hq2 hk2) rfl i_Sum t_Sum t_Sum_ok n_Sum 1 (by decide) q_259 (Or.inl rfl) rfl rfl rfl (Nat.le_of_ble_eq_true rfl) (u_f4_place hq2 hk2) d_Fun_take_12 (fun H locs hd => ?_)
  exact zfv hC hd hr hlk d_Fun_take_15 (by unfold x_take; rw [hk]; (repeat (first | (rw [if_pos]; rotate_left; first | assumption | decide) | (rw [if_neg]; rotate_left; first | assumption | decide))) <;> (try rfl))
set_option maxHeartbeats 4000000 in
theorem c_Fun_take5 (l : Launch) (G : Gt) (ad : Nat → Nat → Nat) (ow : Nat → Nat × Nat) (Z : Zt) (k : Nat) (hq : k < xn Z 0 2) (hk : xn Z 1 k = 5) (x : Int64) : Met l y_Fun_take w_Fun_take ({ frames := 1, cells := 0, slots := 0, locals := 22 }) (zPc G ad ow Z [.ref (ad 2 k), .long x]) (Qd G ad ow (x_take Z k x) (none)) 0 0 (zA G) := by
  refine zopen (cc := b_Fun_take) (maxL := 3) (ret := none) (by decide) rfl (Nat.le_of_ble_eq_true rfl) ?_
  intro p e s m below meth c ls hC hr hlk hnm hd hl
  have hC : Cx G p c m s _ "KeyGraph$Function" b_Fun_take 3 := hC
  have hl : lv_has ls 3 [(0, .ref (ad 2 k)), (1, .long x)] := hl
  have hx := hC.1
  have hb := hC.2.1
  refine lv_aload_n hx hb d_Fun_take_0 rfl (lv_at hl 0 rfl) ?_
  refine lv_lload_n hx hb d_Fun_take_1 rfl (lv_at hl 1 rfl) ?_
  refine zb_v hd (zrunA (owner := "KeyGraph$Function") (n := 1) (rest := []) hC hd (e_f5 hq hk) rfl (c_Great_with l G ad ow Z k hq hk x) q_515 q_517 z_516 q_522 q_523 q_17 q_524 rfl rfl rfl (by decide +kernel) ⟨by decide, by decide⟩ rfl hl.1 (Nat.le_of_ble_eq_true rfl) d_Fun_take_2 ⟨by decide, by decide⟩) (fun H locs hd => ?_)
  have hq2 : k < xn (x_with Z k x) 0 2 := by rw [x_with_xn]; exact hq
  have hk2 : xn (x_with Z k x) 1 k = 5 := by rw [x_with_xn]; exact hk
  refine lv_aload_n hx hb d_Fun_take_5 rfl (lv_at hl 0 rfl) ?_
  refine lv_dup hx hb d_Fun_take_6 rfl ?_
  refine zget hC hd (e_f5 hq2 hk2) rfl i_Great 1 (by decide) q_259 (Or.inl rfl) (v := .int (xi (x_with Z k x) 11 k)) rfl d_Fun_take_7 ?_
  refine lv_iconst (v := 1) hx hb d_Fun_take_10 (by decide) ?_
  refine lv_iadd hx hb d_Fun_take_11 ?_
  refine zput (Z' := (si (x_with Z k x) 11 k ((xi (x_with Z k x) 11 k) + 1))) (v := .int ((xi (x_with Z k x) 11 k) + 1)) hC hd (e_f5 hq2 hk2) rfl i_Great t_Great t_Great_ok n_Great 1 (by decide) q_259 (Or.inl rfl) rfl rfl rfl (Nat.le_of_ble_eq_true rfl) (u_f5_place hq2 hk2) d_Fun_take_12 (fun H locs hd => ?_)
  exact zfv hC hd hr hlk d_Fun_take_15 (by unfold x_take; rw [hk]; (repeat (first | (rw [if_pos]; rotate_left; first | assumption | decide) | (rw [if_neg]; rotate_left; first | assumption | decide))) <;> (try rfl))
set_option maxHeartbeats 4000000 in
theorem c_Choice_take (l : Launch) (G : Gt) (ad : Nat → Nat → Nat) (ow : Nat → Nat × Nat) (Z : Zt) (k : Nat) (hq : k < xn Z 0 2) (hk : xn Z 1 k = 2) (x : Int64) (hz : xi Z 13 k = 0 → ¬ xi Z 10 k = 1 → ¬ (xi Z 10 k - 1).toInt64 = 0) : Met l y_Choice_take w_Choice_take ({ frames := 1, cells := 0, slots := 0, locals := 22 }) (zPc G ad ow Z [.ref (ad 2 k), .long x]) (Qd G ad ow (x_take Z k x) (none)) 0 0 (zA G) := by
  refine zopen (cc := b_Choice_take) (maxL := 5) (ret := none) (by decide) rfl (Nat.le_of_ble_eq_true rfl) ?_
  intro p e s m below meth c ls hC hr hlk hnm hd hl
  have hC : Cx G p c m s _ "KeyGraph$Choice" b_Choice_take 5 := hC
  have hl : lv_has ls 5 [(0, .ref (ad 2 k)), (1, .long x)] := hl
  have hx := hC.1
  have hb := hC.2.1
  have ew : x_with Z k x = sl Z 2 k x := by unfold x_with; rw [hk]; (repeat (first | (rw [if_pos]; rotate_left; first | assumption | decide) | (rw [if_neg]; rotate_left; first | assumption | decide))) <;> (try rfl)
  have cw := c_Choice_with l G ad ow Z k hq hk x
  rw [ew] at cw
  refine lv_aload_n hx hb d_Choice_take_0 rfl (lv_at hl 0 rfl) ?_
  refine lv_lload_n hx hb d_Choice_take_1 rfl (lv_at hl 1 rfl) ?_
  refine zb_v hd (zrunV (n := 1) (rest := []) hC hd (e_f2 hq hk) rfl (cw) q_506 q_507 q_508 q_15 q_509 rfl rfl rfl (by decide +kernel) ⟨by decide, by decide⟩ rfl hl.1 (Nat.le_of_ble_eq_true rfl) d_Choice_take_2 ⟨by decide, by decide⟩) (fun H locs hd => ?_)
  refine lv_aload_n hx hb d_Choice_take_5 rfl (lv_at hl 0 rfl) ?_
  refine zget hC hd (e_f2 hq hk) rfl i_Choice 4 (by decide) q_310 (Or.inl rfl) (v := .int (xi Z 13 k)) rfl d_Choice_take_6 ?_
  refine lv_if_ne (tgt := 20) hx hb d_Choice_take_9 (by decide) (fun c9 => ?_) (fun c9 => ?_)
  · refine lv_aload_n hx hb d_Choice_take_20 rfl (lv_at hl 0 rfl) ?_
    refine lv_iconst (v := 1) hx hb d_Choice_take_21 (by decide) ?_
    refine zput (Z' := (si (sl Z 2 k x) 13 k 1)) (v := .int 1) hC hd (e_f2 hq hk) rfl i_Choice t_Choice t_Choice_ok n_Choice 4 (by decide) q_310 (Or.inl rfl) rfl (zbool (by decide)) (zboolf (by decide)) (Nat.le_of_ble_eq_true rfl) (u_f2_chosen hq hk) d_Choice_take_22 (fun H locs hd => ?_)
    refine lv_aload_n hx hb d_Choice_take_25 rfl (lv_at hl 0 rfl) ?_
    refine lv_iconst (v := (-1)) hx hb d_Choice_take_26 (by decide) ?_
    refine zput (Z' := (si (si (sl Z 2 k x) 13 k 1) 11 k (-1))) (v := .int (-1)) hC hd (e_f2 hq hk) rfl i_Choice t_Choice t_Choice_ok n_Choice 1 (by decide) q_264 (Or.inr q_265) rfl rfl rfl (Nat.le_of_ble_eq_true rfl) (u_f2_place hq hk) d_Choice_take_27 (fun H locs hd => ?_)
    exact zfv hC hd hr hlk d_Choice_take_30 (by unfold x_take x_takeC x_chP x_chR; rw [hk]; (repeat (first | (rw [if_pos]; rotate_left; first | assumption | decide) | (rw [if_neg]; rotate_left; first | assumption | decide))) <;> (try rfl))
  · refine lv_aload_n hx hb d_Choice_take_12 rfl (lv_at hl 0 rfl) ?_
    refine zget hC hd (e_f2 hq hk) rfl i_Choice 0 (by decide) q_255 (Or.inr q_256) (v := .int (xi Z 10 k)) rfl d_Choice_take_13 ?_
    refine lv_iconst (v := 1) hx hb d_Choice_take_16 (by decide) ?_
    refine lv_icmp_ne (tgt := 31) hx hb d_Choice_take_17 (by decide) (fun c17 => ?_) (fun c17 => ?_)
    · refine lv_aload_n hx hb d_Choice_take_31 rfl (lv_at hl 0 rfl) ?_
      refine lv_iconst (v := 1) hx hb d_Choice_take_32 (by decide) ?_
      refine zput (Z' := (si (sl Z 2 k x) 13 k 1)) (v := .int 1) hC hd (e_f2 hq hk) rfl i_Choice t_Choice t_Choice_ok n_Choice 4 (by decide) q_310 (Or.inl rfl) rfl (zbool (by decide)) (zboolf (by decide)) (Nat.le_of_ble_eq_true rfl) (u_f2_chosen hq hk) d_Choice_take_33 (fun H locs hd => ?_)
      refine lv_lload_n hx hb d_Choice_take_36 rfl (lv_at hl 1 rfl) ?_
      refine lv_aload_n hx hb d_Choice_take_37 rfl (lv_at hl 0 rfl) ?_
      refine zget hC hd (e_f2 hq hk) rfl i_Choice 0 (by decide) q_255 (Or.inr q_256) (v := .int (xi Z 10 k)) rfl d_Choice_take_38 ?_
      refine lv_iconst (v := 1) hx hb d_Choice_take_41 (by decide) ?_
      refine lv_isub hx hb d_Choice_take_42 ?_
      refine lv_i2l (v := ((xi Z 10 k) - 1).toInt64) hx hb d_Choice_take_43 rfl ?_
      refine lv_lrem hx hb d_Choice_take_44 (hz c9 c17) ?_
      refine lv_lstore_n (lv' := [(3, .long (x - x / (((xi Z 10 k) - 1).toInt64) * (((xi Z 10 k) - 1).toInt64))), (0, .ref (ad 2 k)), (1, .long x)]) hx hb d_Choice_take_45 rfl hl (by decide) rfl (fun ls hl => ?_)
      refine lv_aload_n hx hb d_Choice_take_46 rfl (lv_at hl 1 rfl) ?_
      refine lv_iconst (v := 1) hx hb d_Choice_take_47 (by decide) ?_
      refine lv_lload_n hx hb d_Choice_take_48 rfl (lv_at hl 0 rfl) ?_
      refine lv_lconst (v := 0) hx hb d_Choice_take_49 (by decide) ?_
      refine W.lcmp hx hb d_Choice_take_50 ?_
      refine lv_if_ge (tgt := 66) hx hb d_Choice_take_51 (by decide) (fun c51 => ?_) (fun c51 => ?_)
      · simp only [ne_eq, lg_cmp_eq, lg_cmp_le, lg_cmp_lt, lg_cmp_ge, lg_cmp_gt] at c51
        refine lv_lload_n hx hb d_Choice_take_66 rfl (lv_at hl 0 rfl) ?_
        refine lv_l2i (v := (x - x / (((xi Z 10 k) - 1).toInt64) * (((xi Z 10 k) - 1).toInt64)).toInt32) hx hb d_Choice_take_67 rfl ?_
        refine lv_iadd hx hb d_Choice_take_68 ?_
        refine zput (Z' := (si (si (sl Z 2 k x) 13 k 1) 11 k (1 + ((x - x / (((xi Z 10 k) - 1).toInt64) * (((xi Z 10 k) - 1).toInt64)).toInt32)))) (v := .int (1 + ((x - x / (((xi Z 10 k) - 1).toInt64) * (((xi Z 10 k) - 1).toInt64)).toInt32))) hC hd (e_f2 hq hk) rfl i_Choice t_Choice t_Choice_ok n_Choice 1 (by decide) q_264 (Or.inr q_265) rfl rfl rfl (Nat.le_of_ble_eq_true rfl) (u_f2_place hq hk) d_Choice_take_69 (fun H locs hd => ?_)
        exact zfv hC hd hr hlk d_Choice_take_72 (by unfold x_take x_takeC x_chP x_chR; rw [hk]; (repeat (first | (rw [if_pos]; rotate_left; first | assumption | decide) | (rw [if_neg]; rotate_left; first | assumption | decide))) <;> (try rfl))
      · simp only [ne_eq, lg_cmp_eq, lg_cmp_le, lg_cmp_lt, lg_cmp_ge, lg_cmp_gt] at c51
        refine lv_lload_n hx hb d_Choice_take_54 rfl (lv_at hl 0 rfl) ?_
        refine lv_aload_n hx hb d_Choice_take_55 rfl (lv_at hl 1 rfl) ?_
        refine zget hC hd (e_f2 hq hk) rfl i_Choice 0 (by decide) q_255 (Or.inr q_256) (v := .int (xi Z 10 k)) rfl d_Choice_take_56 ?_
        refine lv_i2l (v := (xi Z 10 k).toInt64) hx hb d_Choice_take_59 rfl ?_
        refine lv_ladd hx hb d_Choice_take_60 ?_
        refine lv_lconst (v := 1) hx hb d_Choice_take_61 (by decide) ?_
        refine lv_lsub hx hb d_Choice_take_62 ?_
        refine lv_goto (tgt := 67) hx hb d_Choice_take_63 (by decide) ?_
        refine lv_l2i (v := (((x - x / (((xi Z 10 k) - 1).toInt64) * (((xi Z 10 k) - 1).toInt64)) + ((xi Z 10 k).toInt64)) - 1).toInt32) hx hb d_Choice_take_67 rfl ?_
        refine lv_iadd hx hb d_Choice_take_68 ?_
        refine zput (Z' := (si (si (sl Z 2 k x) 13 k 1) 11 k (1 + ((((x - x / (((xi Z 10 k) - 1).toInt64) * (((xi Z 10 k) - 1).toInt64)) + ((xi Z 10 k).toInt64)) - 1).toInt32)))) (v := .int (1 + ((((x - x / (((xi Z 10 k) - 1).toInt64) * (((xi Z 10 k) - 1).toInt64)) + ((xi Z 10 k).toInt64)) - 1).toInt32))) hC hd (e_f2 hq hk) rfl i_Choice t_Choice t_Choice_ok n_Choice 1 (by decide) q_264 (Or.inr q_265) rfl rfl rfl (Nat.le_of_ble_eq_true rfl) (u_f2_place hq hk) d_Choice_take_69 (fun H locs hd => ?_)
        exact zfv hC hd hr hlk d_Choice_take_72 (by unfold x_take x_takeC x_chP x_chR; rw [hk]; (repeat (first | (rw [if_pos]; rotate_left; first | assumption | decide) | (rw [if_neg]; rotate_left; first | assumption | decide))) <;> (try rfl))
    · refine lv_aload_n hx hb d_Choice_take_20 rfl (lv_at hl 0 rfl) ?_
      refine lv_iconst (v := 1) hx hb d_Choice_take_21 (by decide) ?_
      refine zput (Z' := (si (sl Z 2 k x) 13 k 1)) (v := .int 1) hC hd (e_f2 hq hk) rfl i_Choice t_Choice t_Choice_ok n_Choice 4 (by decide) q_310 (Or.inl rfl) rfl (zbool (by decide)) (zboolf (by decide)) (Nat.le_of_ble_eq_true rfl) (u_f2_chosen hq hk) d_Choice_take_22 (fun H locs hd => ?_)
      refine lv_aload_n hx hb d_Choice_take_25 rfl (lv_at hl 0 rfl) ?_
      refine lv_iconst (v := (-1)) hx hb d_Choice_take_26 (by decide) ?_
      refine zput (Z' := (si (si (sl Z 2 k x) 13 k 1) 11 k (-1))) (v := .int (-1)) hC hd (e_f2 hq hk) rfl i_Choice t_Choice t_Choice_ok n_Choice 1 (by decide) q_264 (Or.inr q_265) rfl rfl rfl (Nat.le_of_ble_eq_true rfl) (u_f2_place hq hk) d_Choice_take_27 (fun H locs hd => ?_)
      exact zfv hC hd hr hlk d_Choice_take_30 (by unfold x_take x_takeC x_chP x_chR; rw [hk]; (repeat (first | (rw [if_pos]; rotate_left; first | assumption | decide) | (rw [if_neg]; rotate_left; first | assumption | decide))) <;> (try rfl))
set_option maxHeartbeats 4000000 in
theorem c_Key_isLeaf_y (l : Launch) (G : Gt) (ad : Nat → Nat → Nat) (ow : Nat → Nat × Nat) (Z : Zt) (k : Nat) (hk : k < xn Z 0 1) (hlf : xn Z 1 k = 6) : Met l y_Key_isLeaf w_Key_isLeaf ({ frames := 0, cells := 0, slots := 0, locals := 0 }) (zPc G ad ow Z [.ref (ad 1 k)]) (Qd G ad ow Z (some (.int 1))) 0 0 (zA G) := by
  refine zopen (cc := b_Key_isLeaf) (maxL := 1) (ret := (some FieldType.boolean)) (by decide) rfl (Nat.le_of_ble_eq_true rfl) ?_
  intro p e s m below meth c ls hC hr hlk hnm hd hl
  have hC : Cx G p c m s _ "KeyGraph$Key" b_Key_isLeaf 1 := hC
  have hl : lv_has ls 1 [(0, .ref (ad 1 k))] := hl
  have hx := hC.1
  have hb := hC.2.1
  refine lv_aload_n hx hb d_Key_isLeaf_0 rfl (lv_at hl 0 rfl) ?_
  refine zget hC hd (e_key hk) rfl i_Key 1 (by decide) q_115 (Or.inl rfl) (v := .null) (congrArg (fun q => some (va_rf q)) (if_pos hlf)) d_Key_isLeaf_1 ?_
  refine lv_ifnonnullN hx hb d_Key_isLeaf_4 ?_
  refine lv_iconst (v := 1) hx hb d_Key_isLeaf_7 (by decide) ?_
  refine lv_goto (tgt := 12) hx hb d_Key_isLeaf_8 (by decide) ?_
  exact zfz hC hd hr hlk d_Key_isLeaf_12 (by decide) rfl rfl
set_option maxHeartbeats 4000000 in
theorem c_Key_isLeaf_n (l : Launch) (G : Gt) (ad : Nat → Nat → Nat) (ow : Nat → Nat × Nat) (Z : Zt) (k : Nat) (hk : k < xn Z 0 1) (hlf : ¬ xn Z 1 k = 6) : Met l y_Key_isLeaf w_Key_isLeaf ({ frames := 0, cells := 0, slots := 0, locals := 0 }) (zPc G ad ow Z [.ref (ad 1 k)]) (Qd G ad ow Z (some (.int 0))) 0 0 (zA G) := by
  refine zopen (cc := b_Key_isLeaf) (maxL := 1) (ret := (some FieldType.boolean)) (by decide) rfl (Nat.le_of_ble_eq_true rfl) ?_
  intro p e s m below meth c ls hC hr hlk hnm hd hl
  have hC : Cx G p c m s _ "KeyGraph$Key" b_Key_isLeaf 1 := hC
  have hl : lv_has ls 1 [(0, .ref (ad 1 k))] := hl
  have hx := hC.1
  have hb := hC.2.1
  refine lv_aload_n hx hb d_Key_isLeaf_0 rfl (lv_at hl 0 rfl) ?_
  refine zget hC hd (e_key hk) rfl i_Key 1 (by decide) q_115 (Or.inl rfl) (v := .ref (ad 2 k)) (congrArg (fun q => some (va_rf q)) (if_neg hlf)) d_Key_isLeaf_1 ?_
  refine lv_ifnonnull (tgt := 11) hx hb d_Key_isLeaf_4 (by decide) ?_
  refine lv_iconst (v := 0) hx hb d_Key_isLeaf_11 (by decide) ?_
  exact zfz hC hd hr hlk d_Key_isLeaf_12 (by decide) rfl rfl
set_option maxHeartbeats 4000000 in
theorem c_Pile_top (l : Launch) (G : Gt) (ad : Nat → Nat → Nat) (ow : Nat → Nat × Nat) (Z : Zt) (hX : XS Z) (u : Nat) (hu : u < 5) (h1 : 1 ≤ xn Z 9 u) (h40 : xn Z 9 u ≤ 40) (k : Nat) (hne : xc Z 7 u (xn Z 9 u - 1) = k + 1) : Met l y_Pile_top w_Pile_top ({ frames := 0, cells := 0, slots := 0, locals := 0 }) (zPc G ad ow Z [.ref (ad 6 u)]) (Qd G ad ow Z (some (.ref (ad 1 k)))) 0 0 (zA G) := by
  refine zopen (cc := b_Pile_top) (maxL := 1) (ret := (some (FieldType.object "KeyGraph$Key"))) (by decide) rfl (Nat.le_of_ble_eq_true rfl) ?_
  intro p e s m below meth c ls hC hr hlk hnm hd hl
  have hC : Cx G p c m s _ "KeyGraph$Pile" b_Pile_top 1 := hC
  have hl : lv_has ls 1 [(0, .ref (ad 6 u))] := hl
  have hx := hC.1
  have hb := hC.2.1
  refine lv_aload_n hx hb d_Pile_top_0 rfl (lv_at hl 0 rfl) ?_
  refine zget hC hd (e_pile (hX.pl hu)) rfl i_Pile 0 (by decide) q_71 (Or.inl rfl) (v := .ref (ad 7 u)) rfl d_Pile_top_1 ?_
  refine lv_aload_n hx hb d_Pile_top_4 rfl (lv_at hl 0 rfl) ?_
  refine zget hC hd (e_pile (hX.pl hu)) rfl i_Pile 1 (by decide) q_73 (Or.inl rfl) (v := .int (nI (xn Z 9 u))) rfl d_Pile_top_5 ?_
  refine lv_iconst (v := 1) hx hb d_Pile_top_8 (by decide) ?_
  refine zsubN (x := xn Z 9 u) (y := 1) (by omega) hx hb d_Pile_top_9 ?_
  refine zaaK (k := (xn Z 9 u) - 1) (y := ad 1 k) hC hd (e_pka (hX.pa hu)) (by omega) (by decide) (by show (if xc Z 7 u (xn Z 9 u - 1) = 0 then none else some (ad 1 (xc Z 7 u (xn Z 9 u - 1) - 1))) = _; rw [hne]; rfl) d_Pile_top_10 ?_
  exact zfa hC hd hr (Or.inl ⟨_, rfl⟩) hlk d_Pile_top_11 rfl rfl
set_option maxHeartbeats 4000000 in
theorem c_AL_size (l : Launch) (G : Gt) (ad : Nat → Nat → Nat) (ow : Nat → Nat × Nat) (Z : Zt) (i : Nat) (hi : i < xn Z 0 3) : Met l y_AL_size w_AL_size ({ frames := 0, cells := 0, slots := 0, locals := 0 }) (zPc G ad ow Z [.ref (ad 3 i)]) (Qd G ad ow Z (some (.int (nI (xn Z 2 i))))) 0 0 (zA G) := by
  refine zopen (cc := b_AL_size) (maxL := 1) (ret := (some FieldType.int)) (by decide) rfl (Nat.le_of_ble_eq_true rfl) ?_
  intro p e s m below meth c ls hC hr hlk hnm hd hl
  have hC : Cx G p c m s _ "java/util/ArrayList" b_AL_size 1 := hC
  have hl : lv_has ls 1 [(0, .ref (ad 3 i))] := hl
  have hx := hC.1
  have hb := hC.2.1
  refine lv_aload_n hx hb d_AL_size_0 rfl (lv_at hl 0 rfl) ?_
  refine zget hC hd (e_list hi) rfl i_AL 2 (by decide) q_48 (Or.inl rfl) (v := .int (nI (xn Z 2 i))) rfl d_AL_size_1 ?_
  exact zfi hC hd hr hlk d_AL_size_4 rfl rfl
set_option maxHeartbeats 4000000 in
theorem c_AL_elementData (l : Launch) (G : Gt) (ad : Nat → Nat → Nat) (ow : Nat → Nat × Nat) (Z : Zt) (i j k : Nat) (hi : i < xn Z 0 3) (h4 : i < xn Z 0 4) (hc : xn Z 3 i ≠ 0) (hcn : xn Z 3 i ≤ 2147483647) (hj : j < xn Z 3 i) (hk : xc Z 4 i j = k + 1) : Met l y_AL_elementData w_AL_elementData ({ frames := 0, cells := 0, slots := 0, locals := 0 }) (zPc G ad ow Z [.ref (ad 3 i), .int (nI j)]) (Qd G ad ow Z (some (.ref (ad 1 k)))) 0 0 (zA G) := by
  refine zopen (cc := b_AL_elementData) (maxL := 2) (ret := (some (FieldType.object "java/lang/Object"))) (by decide) rfl (Nat.le_of_ble_eq_true rfl) ?_
  intro p e s m below meth c ls hC hr hlk hnm hd hl
  have hC : Cx G p c m s _ "java/util/ArrayList" b_AL_elementData 2 := hC
  have hl : lv_has ls 2 [(0, .ref (ad 3 i)), (1, .int (nI j))] := hl
  have hx := hC.1
  have hb := hC.2.1
  refine lv_aload_n hx hb d_AL_elementData_0 rfl (lv_at hl 0 rfl) ?_
  refine zget hC hd (e_list hi) rfl i_AL 1 (by decide) q_47 (Or.inl rfl) (v := .ref (ad 4 i)) (congrArg (fun q => some (Value.ref q)) (if_neg hc)) d_AL_elementData_1 ?_
  refine lv_iload_n hx hb d_AL_elementData_4 rfl (lv_at hl 1 rfl) ?_
  refine zaaO (k := j) (y := ad 1 k) hC hd (e_elem h4 hc) (by omega) hcn (by show (if xc Z 4 i j = 0 then none else some (ad 1 (xc Z 4 i j - 1))) = _; rw [hk]; rfl) d_AL_elementData_5 ?_
  exact zfa hC hd hr (Or.inl ⟨_, rfl⟩) hlk d_AL_elementData_6 rfl rfl
set_option maxHeartbeats 4000000 in
theorem c_Prec_checkIndex (l : Launch) (G : Gt) (ad : Nat → Nat → Nat) (ow : Nat → Nat × Nat) (Z : Zt) (j n : Nat) (hj : j < n) (hn : n ≤ 2147483647) : Met l y_Prec_checkIndex w_Prec_checkIndex ({ frames := 0, cells := 0, slots := 0, locals := 0 }) (zPc G ad ow Z [.int (nI j), .int (nI n), .null]) (Qd G ad ow Z (some (.int (nI j)))) 0 0 (zA G) := by
  refine zopen (cc := b_Prec_checkIndex) (maxL := 3) (ret := (some FieldType.int)) (by decide) rfl (Nat.le_of_ble_eq_true rfl) ?_
  intro p e s m below meth c ls hC hr hlk hnm hd hl
  have hC : Cx G p c m s _ "jdk/internal/util/Preconditions" b_Prec_checkIndex 3 := hC
  have hl : lv_has ls 3 [(0, .int (nI j)), (1, .int (nI n)), (2, .null)] := hl
  have hx := hC.1
  have hb := hC.2.1
  refine lv_iload_n hx hb d_Prec_checkIndex_0 rfl (lv_at hl 0 rfl) ?_
  refine lv_if_lt (tgt := 9) hx hb d_Prec_checkIndex_1 (by decide) (fun c => absurd c (nI_pos (by omega))) (fun _ => ?_)
  refine lv_iload_n hx hb d_Prec_checkIndex_4 rfl (lv_at hl 0 rfl) ?_
  refine lv_iload_n hx hb d_Prec_checkIndex_5 rfl (lv_at hl 1 rfl) ?_
  refine zc_lt (x := j) (y := n) (tgt := 16) (by omega) (by omega) hx hb d_Prec_checkIndex_6 (by decide) (fun c6 => ?_) (fun c6 => absurd c6 (by omega))
  refine lv_iload_n hx hb d_Prec_checkIndex_16 rfl (lv_at hl 0 rfl) ?_
  exact zfi hC hd hr hlk d_Prec_checkIndex_17 rfl rfl
set_option maxHeartbeats 4000000 in
theorem c_Objs_checkIndex (l : Launch) (G : Gt) (ad : Nat → Nat → Nat) (ow : Nat → Nat × Nat) (Z : Zt) (j n : Nat) (hj : j < n) (hn : n ≤ 2147483647) : Met l y_Objs_checkIndex w_Objs_checkIndex ({ frames := 1, cells := 0, slots := 0, locals := 22 }) (zPc G ad ow Z [.int (nI j), .int (nI n)]) (Qd G ad ow Z (some (.int (nI j)))) 0 0 (zA G) := by
  refine zopen (cc := b_Objs_checkIndex) (maxL := 2) (ret := (some FieldType.int)) (by decide) rfl (Nat.le_of_ble_eq_true rfl) ?_
  intro p e s m below meth c ls hC hr hlk hnm hd hl
  have hC : Cx G p c m s _ "java/util/Objects" b_Objs_checkIndex 2 := hC
  have hl : lv_has ls 2 [(0, .int (nI j)), (1, .int (nI n))] := hl
  have hx := hC.1
  have hb := hC.2.1
  refine lv_iload_n hx hb d_Objs_checkIndex_0 rfl (lv_at hl 0 rfl) ?_
  refine lv_iload_n hx hb d_Objs_checkIndex_1 rfl (lv_at hl 1 rfl) ?_
  refine lv_null hx hb d_Objs_checkIndex_2 ?_
  refine zb_i (r := (nI j)) hd (zrunS (n := 3) (rest := []) hC hd (c_Prec_checkIndex l G ad ow Z j n hj hn) q_359 q_360 q_19 q_361 rfl rfl rfl (by decide +kernel) ⟨by decide, by decide⟩ rfl hl.1 (Nat.le_of_ble_eq_true rfl) d_Objs_checkIndex_3 ⟨by decide, by decide⟩) (fun H locs hd => ?_)
  exact zfi hC hd hr hlk d_Objs_checkIndex_6 rfl rfl
set_option maxHeartbeats 4000000 in
theorem c_AL_get (l : Launch) (G : Gt) (ad : Nat → Nat → Nat) (ow : Nat → Nat × Nat) (Z : Zt) (i j k : Nat) (hi : i < xn Z 0 3) (h4 : i < xn Z 0 4) (hc : xn Z 3 i ≠ 0) (hcn : xn Z 3 i ≤ 2147483647) (hj : j < xn Z 3 i) (hk : xc Z 4 i j = k + 1) (hs : j < xn Z 2 i) (hsc : xn Z 2 i ≤ xn Z 3 i) : Met l y_AL_get w_AL_get ({ frames := 2, cells := 0, slots := 0, locals := 43 }) (zPc G ad ow Z [.ref (ad 3 i), .int (nI j)]) (Qd G ad ow Z (some (.ref (ad 1 k)))) 0 0 (zA G) := by
  refine zopen (cc := b_AL_get) (maxL := 2) (ret := (some (FieldType.object "java/lang/Object"))) (by decide) rfl (Nat.le_of_ble_eq_true rfl) ?_
  intro p e s m below meth c ls hC hr hlk hnm hd hl
  have hC : Cx G p c m s _ "java/util/ArrayList" b_AL_get 2 := hC
  have hl : lv_has ls 2 [(0, .ref (ad 3 i)), (1, .int (nI j))] := hl
  have hx := hC.1
  have hb := hC.2.1
  refine lv_iload_n hx hb d_AL_get_0 rfl (lv_at hl 1 rfl) ?_
  refine lv_aload_n hx hb d_AL_get_1 rfl (lv_at hl 0 rfl) ?_
  refine zget hC hd (e_list hi) rfl i_AL 2 (by decide) q_48 (Or.inl rfl) (v := .int (nI (xn Z 2 i))) rfl d_AL_get_2 ?_
  refine zb_i (r := (nI j)) hd (zrunS (n := 2) (rest := []) hC hd (c_Objs_checkIndex l G ad ow Z j (xn Z 2 i) hs (by omega)) q_356 q_357 q_18 q_358 rfl rfl rfl (by decide +kernel) ⟨by decide, by decide⟩ rfl hl.1 (Nat.le_of_ble_eq_true rfl) d_AL_get_5 ⟨by decide, by decide⟩) (fun H locs hd => ?_)
  refine lv_pop hx hb d_AL_get_8 rfl ?_
  refine lv_aload_n hx hb d_AL_get_9 rfl (lv_at hl 0 rfl) ?_
  refine lv_iload_n hx hb d_AL_get_10 rfl (lv_at hl 1 rfl) ?_
  refine zb_a (r := (ad 1 k)) hd (zrunV (n := 1) (rest := []) hC hd (e_list hi) rfl (c_AL_elementData l G ad ow Z i j k hi h4 hc hcn hj hk) q_362 q_363 q_364 q_4 q_365 rfl rfl rfl (by decide +kernel) ⟨by decide, by decide⟩ rfl hl.1 (Nat.le_of_ble_eq_true rfl) d_AL_get_11 ⟨by decide, by decide⟩) (fun H locs hd => ?_)
  exact zfa hC hd hr (Or.inl ⟨_, rfl⟩) hlk d_AL_get_14 rfl rfl
theorem c_get (l : Launch) (G : Gt) (ad : Nat → Nat → Nat) (ow : Nat → Nat × Nat) (Z : Zt) (hX : XS Z) (i j k : Nat) (hi : i < xn Z 0 3) (hj : j < xn Z 2 i) (hk : xc Z 4 i j = k + 1) : Met l y_AL_get w_AL_get ({ frames := 2, cells := 0, slots := 0, locals := 43 }) (zPc G ad ow Z [.ref (ad 3 i), .int (nI j)]) (Qd G ad ow Z (some (.ref (ad 1 k)))) 0 0 (zA G) :=
  c_AL_get l G ad ow Z i j k hi (by have := hX.1; omega) (by have := hX.2.2.1.1 i; omega) (by have := hX.2.2.1.2 i; omega) (by have := hX.2.2.1.1 i; omega) hk hj (hX.2.2.1.1 i)
