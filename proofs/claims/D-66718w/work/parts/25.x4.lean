def x_check (Z : Zt) (u k : Nat) : Zt × Int32 := if xn Z 6 k = xn Z 4 k then (x_found (si Z 6 k (xi Z 6 k + 1)) u k, 2) else if x_isSure Z (xc Z 4 (k + 2) (xc Z 5 (xn Z 7 k) (xn Z 6 k)) - 1) = 0 then x_goesDown Z u (xc Z 4 (k + 2) (xc Z 5 (xn Z 7 k) (xn Z 6 k)) - 1) else if xi Z 2 (xc Z 4 (k + 2) (xc Z 5 (xn Z 7 k) (xn Z 6 k)) - 1) ≤ xi Z 3 k then (sn Z 6 k (xn Z 6 k + 1), 4) else (si Z 9 k 0, 5)
def x_workN (Z : Zt) (u k j : Nat) : Zt × Int32 := if x_isSure Z (xc Z 4 (k + 2) j - 1) = 0 then x_goesDown Z u (xc Z 4 (k + 2) j - 1) else if xi Z 1 (xc Z 4 (k + 2) j - 1) = 1 then (x_take (sn (sc Z 5 (xn Z 8 k) (xn Z 5 k) j) 5 k (xn Z 5 k + 1)) k (xl Z 1 (xc Z 4 (k + 2) j - 1)), 6) else (x_ends (sn (sc Z 5 (xn Z 8 k) (xn Z 5 k) j) 5 k (xn Z 5 k + 1)) u k 3 0, 2)
def x_work (Z : Zt) (u k : Nat) : Zt × Int32 := if xi Z 7 k = 0 then (if xi Z 12 k = 0 then (if 0 ≤ x_next Z k then x_workN Z u k (x_next Z k).toNatClampNeg else (x_ends Z u k 1 (x_result Z k), 2)) else (x_ends Z u k 2 0, 2)) else (x_ends Z u k 2 0, 2)
def x_step1 (Z : Zt) (u k : Nat) : Zt × Int32 := if xi Z 9 k = 0 then x_work Z u k else x_check Z u k
def x_stepOf (Z : Zt) (u : Nat) : Zt × Int32 := if xn Z 9 u = 0 then (Z, 0) else x_step1 Z u (xc Z 7 u (xn Z 9 u - 1) - 1)
/-- what a step of pile u, with k on top, may be asked for -/
def DownOk (Z : Zt) (u : Nat) : Prop := ∀ q, q < xn Z 0 1 → x_isSure Z q = 0 → xn Z 1 q < 6 ∧ (xi Z 8 q < 0 → xn Z 9 u < 40)
def CheckPre (Z : Zt) (k : Nat) : Prop := ¬ xn Z 6 k = xn Z 4 k → xn Z 6 k < 8 ∧ xc Z 5 (xn Z 7 k) (xn Z 6 k) < xn Z 2 (k + 2)
def WorkPre (Z : Zt) (k : Nat) : Prop := (xi Z 12 k = 0 ∨ xi Z 12 k = 1) ∧ (0 ≤ x_next Z k → (x_next Z k).toNatClampNeg < xn Z 2 (k + 2) ∧ xn Z 5 k < 8) ∧ (xn Z 1 k = 2 → xi Z 13 k = 0 → ¬ xi Z 10 k = 1 → ¬ (xi Z 10 k - 1).toInt64 = 0)
def StepPre (Z : Zt) (u : Nat) : Prop := XS Z ∧ u < 5 ∧ xn Z 9 u ≤ 40 ∧ (¬ xn Z 9 u = 0 → ∃ k, k < xn Z 0 1 ∧ xc Z 7 u (xn Z 9 u - 1) = k + 1 ∧ xn Z 1 k < 6 ∧ DownOk Z u ∧ (¬ xi Z 9 k = 0 → CheckPre Z k) ∧ (xi Z 9 k = 0 → WorkPre Z k))

set_option maxHeartbeats 4000000 in
theorem c_KG_check (l : Launch) (G : Gt) (ad : Nat → Nat → Nat) (ow : Nat → Nat × Nat) (Z : Zt) (hX : XS Z) (u k : Nat) (hu : u < 5) (hkn : k < xn Z 0 1) (h1 : 1 ≤ xn Z 9 u) (h40 : xn Z 9 u ≤ 40) (hne : xc Z 7 u (xn Z 9 u - 1) = k + 1) (hdo : DownOk Z u) (hcp : CheckPre Z k) (hab : xn Z 6 k ≤ 2147483647 ∧ xn Z 4 k ≤ 2147483647) : Met l y_KG_check w_KG_check ({ frames := 4, cells := 0, slots := 0, locals := 87 }) (zPc G ad ow Z [.ref (ad 0 0), .int (nI u), .ref (ad 6 u), .ref (ad 1 k)]) (Qd G ad ow ((x_check Z u k).1) (some (.int (x_check Z u k).2))) 0 0 (zA G) := by
  refine zopen (cc := b_KG_check) (maxL := 5) (ret := (some FieldType.int)) (by decide) rfl (Nat.le_of_ble_eq_true rfl) ?_
  intro p e s m below meth c ls hC hr hlk hnm hd hl
  have hC : Cx G p c m s _ "KeyGraph" b_KG_check 5 := hC
  have hl : lv_has ls 5 [(0, .ref (ad 0 0)), (1, .int (nI u)), (2, .ref (ad 6 u)), (3, .ref (ad 1 k))] := hl
  have hx := hC.1
  have hb := hC.2.1
  have hk40 := hX.k40
  refine lv_aload_n hx hb d_KG_check_0 rfl (lv_at hl 3 rfl) ?_
  refine zgetN hC hd (e_key hkn) rfl i_Key 16 (by decide) z_136 (Or.inl rfl) (v := .int (nI (xn Z 6 k))) rfl d_KG_check_1 ?_
  refine lv_aload_n hx hb d_KG_check_4 rfl (lv_at hl 3 rfl) ?_
  refine zgetN hC hd (e_key hkn) rfl i_Key 13 (by decide) z_132 (Or.inl rfl) (v := .int (nI (xn Z 4 k))) rfl d_KG_check_5 ?_
  refine zc_ne (x := xn Z 6 k) (y := xn Z 4 k) (tgt := 27) hab.1 hab.2 hx hb d_KG_check_8 (by decide) (fun c8 => ?_) (fun c8 => ?_)
  · obtain ⟨hat, hj⟩ := hcp c8
    have hrow := (hX.2.2.2.1 k hkn).2 _ hj
    obtain ⟨q, hq⟩ : ∃ q, xc Z 4 (k + 2) (xc Z 5 (xn Z 7 k) (xn Z 6 k)) = q + 1 := ⟨xc Z 4 (k + 2) (xc Z 5 (xn Z 7 k) (xn Z 6 k)) - 1, by omega⟩
    have hq1 : xc Z 4 (k + 2) (xc Z 5 (xn Z 7 k) (xn Z 6 k)) - 1 = q := by omega
    have hqn : q < xn Z 0 1 := by omega
    refine lv_aload_n hx hb d_KG_check_27 rfl (lv_at hl 3 rfl) ?_
    refine zgetN hC hd (e_key hkn) rfl i_Key 2 (by decide) z_118 (Or.inl rfl) (v := .ref (ad 3 (k + 2))) rfl d_KG_check_28 ?_
    refine lv_aload_n hx hb d_KG_check_31 rfl (lv_at hl 3 rfl) ?_
    refine zgetN hC hd (e_key hkn) rfl i_Key 11 (by decide) z_129 (Or.inl rfl) (v := .ref (ad 5 (xn Z 7 k))) rfl d_KG_check_32 ?_
    refine lv_aload_n hx hb d_KG_check_35 rfl (lv_at hl 3 rfl) ?_
    refine zgetN hC hd (e_key hkn) rfl i_Key 16 (by decide) z_136 (Or.inl rfl) (v := .int (nI (xn Z 6 k))) rfl d_KG_check_36 ?_
    refine ziaN (k := xn Z 6 k) (f := fun j => xc Z 5 (xn Z 7 k) j) hC hd (e_arr (hX.ar (hX.2.2.2.2.2 _ hkn).1)) (by omega) (by decide) d_KG_check_39 ?_
    refine zb_a (r := (ad 1 q)) hd (zrunV (n := 1) (rest := []) hC hd (e_list (hX.l hkn)) rfl (c_get l G ad ow Z hX (k + 2) (xc Z 5 (xn Z 7 k) (xn Z 6 k)) q (hX.l hkn) hj hq) q_352 q_353 q_354 q_4 q_355 rfl rfl rfl (by decide +kernel) ⟨by decide, by decide⟩ rfl hl.1 (Nat.le_of_ble_eq_true rfl) d_KG_check_40 ⟨by decide, by decide⟩) (fun H locs hd => ?_)
    refine zcast hC hd (e_key hqn) q_105 d_KG_check_43 ?_
    refine lv_astore (lv' := [(4, .ref (ad 1 q)), (0, .ref (ad 0 0)), (1, .int (nI u)), (2, .ref (ad 6 u)), (3, .ref (ad 1 k))]) hx hb d_KG_check_46 hl (by decide) rfl (fun ls hl => ?_)
    refine lv_aload_n hx hb d_KG_check_48 rfl (lv_at hl 1 rfl) ?_
    refine lv_aload hx hb d_KG_check_49 (lv_at hl 0 rfl) ?_
    refine zb_i (r := (x_isSure Z q)) hd (zrunV (n := 1) (rest := []) hC hd (e_kg hX.kg) rfl (c_KG_isSure l G ad ow Z hX q (x_isSure Z q) hqn rfl) q_421 q_423 qp_9 q_1 q_424 rfl rfl rfl (by decide +kernel) ⟨by decide, by decide⟩ rfl hl.1 (Nat.le_of_ble_eq_true rfl) d_KG_check_51 ⟨by decide, by decide⟩) (fun H locs hd => ?_)
    refine lv_if_ne (tgt := 65) hx hb d_KG_check_54 (by decide) (fun c54 => ?_) (fun c54 => ?_)
    · refine lv_aload hx hb d_KG_check_65 (lv_at hl 0 rfl) ?_
      refine zgetN hC hd (e_key hqn) rfl i_Key 5 (by decide) z_121 (Or.inl rfl) (v := .int (xi Z 2 q)) rfl d_KG_check_67 ?_
      refine lv_aload_n hx hb d_KG_check_70 rfl (lv_at hl 4 rfl) ?_
      refine zgetN hC hd (e_key hkn) rfl i_Key 6 (by decide) z_123 (Or.inl rfl) (v := .int (xi Z 3 k)) rfl d_KG_check_71 ?_
      refine lv_icmp_le (tgt := 84) hx hb d_KG_check_74 (by decide) (fun c74 => ?_) (fun c74 => ?_)
      · refine lv_aload_n hx hb d_KG_check_84 rfl (lv_at hl 4 rfl) ?_
        refine lv_dup hx hb d_KG_check_85 rfl ?_
        refine zgetN hC hd (e_key hkn) rfl i_Key 16 (by decide) z_136 (Or.inl rfl) (v := .int (nI (xn Z 6 k))) rfl d_KG_check_86 ?_
        refine lv_iconst (v := 1) hx hb d_KG_check_89 (by decide) ?_
        refine zaddN (x := xn Z 6 k) (y := 1) hx hb d_KG_check_90 ?_
        refine zputN (Z' := (sn Z 6 k ((xn Z 6 k) + 1))) (v := .int (nI ((xn Z 6 k) + 1))) hC hd (e_key hkn) rfl i_Key t_Key t_Key_ok n_Key 16 (by decide) z_136 rfl rfl rfl rfl (Nat.le_of_ble_eq_true rfl) (u_at hkn) d_KG_check_91 (fun H locs hd => ?_)
        refine lv_iconst (v := 4) hx hb d_KG_check_94 (by decide) ?_
        exact zfi hC hd hr hlk d_KG_check_95 (by unfold x_check; rw [hq1]; (repeat (first | (rw [if_pos]; rotate_left; first | assumption | decide) | (rw [if_neg]; rotate_left; first | assumption | decide))) <;> (try rfl)) (by unfold x_check; rw [hq1]; (repeat (first | (rw [if_pos]; rotate_left; first | assumption | decide) | (rw [if_neg]; rotate_left; first | assumption | decide))) <;> (try rfl))
      · refine lv_aload_n hx hb d_KG_check_77 rfl (lv_at hl 4 rfl) ?_
        refine lv_iconst (v := 0) hx hb d_KG_check_78 (by decide) ?_
        refine zputN (Z' := (si Z 9 k 0)) (v := .int 0) hC hd (e_key hkn) rfl i_Key t_Key t_Key_ok n_Key 17 (by decide) z_137 rfl rfl (zbool (by decide)) (zboolf (by decide)) (Nat.le_of_ble_eq_true rfl) (u_checks hkn) d_KG_check_79 (fun H locs hd => ?_)
        refine lv_iconst (v := 5) hx hb d_KG_check_82 (by decide) ?_
        exact zfi hC hd hr hlk d_KG_check_83 (by unfold x_check; rw [hq1]; (repeat (first | (rw [if_pos]; rotate_left; first | assumption | decide) | (rw [if_neg]; rotate_left; first | assumption | decide))) <;> (try rfl)) (by unfold x_check; rw [hq1]; (repeat (first | (rw [if_pos]; rotate_left; first | assumption | decide) | (rw [if_neg]; rotate_left; first | assumption | decide))) <;> (try rfl))
    · refine lv_aload_n hx hb d_KG_check_57 rfl (lv_at hl 1 rfl) ?_
      refine lv_iload_n hx hb d_KG_check_58 rfl (lv_at hl 2 rfl) ?_
      refine lv_aload hx hb d_KG_check_59 (lv_at hl 0 rfl) ?_
      refine zb_i (r := ((x_goesDown Z u q).2)) hd (zrunV (n := 2) (rest := []) hC hd (e_kg hX.kg) rfl (c_KG_goesDown l G ad ow Z hX u q hu hqn (hdo q hqn c54).1 (hdo q hqn c54).2) q_461 q_463 qp_14 q_1 q_464 rfl rfl rfl (by decide +kernel) ⟨by decide, by decide⟩ rfl hl.1 (Nat.le_of_ble_eq_true rfl) d_KG_check_61 ⟨by decide, by decide⟩) (fun H locs hd => ?_)
      exact zfi hC hd hr hlk d_KG_check_64 (by unfold x_check; rw [hq1]; (repeat (first | (rw [if_pos]; rotate_left; first | assumption | decide) | (rw [if_neg]; rotate_left; first | assumption | decide))) <;> (try rfl)) (by unfold x_check; rw [hq1]; (repeat (first | (rw [if_pos]; rotate_left; first | assumption | decide) | (rw [if_neg]; rotate_left; first | assumption | decide))) <;> (try rfl))
  · refine lv_aload_n hx hb d_KG_check_11 rfl (lv_at hl 3 rfl) ?_
    refine lv_dup hx hb d_KG_check_12 rfl ?_
    refine zgetN hC hd (e_key hkn) rfl i_Key 9 (by decide) z_126 (Or.inl rfl) (v := .int (xi Z 6 k)) rfl d_KG_check_13 ?_
    refine lv_iconst (v := 1) hx hb d_KG_check_16 (by decide) ?_
    refine lv_iadd hx hb d_KG_check_17 ?_
    refine zputN (Z' := (si Z 6 k ((xi Z 6 k) + 1))) (v := .int ((xi Z 6 k) + 1)) hC hd (e_key hkn) rfl i_Key t_Key t_Key_ok n_Key 9 (by decide) z_126 rfl rfl rfl rfl (Nat.le_of_ble_eq_true rfl) (u_kpt hkn) d_KG_check_18 (fun H locs hd => ?_)
    refine lv_aload_n hx hb d_KG_check_21 rfl (lv_at hl 0 rfl) ?_
    refine lv_aload_n hx hb d_KG_check_22 rfl (lv_at hl 2 rfl) ?_
    refine zb_i (r := 2) hd (zrunV (n := 1) (rest := []) hC hd (e_kg hX.kg) rfl (c_KG_found l G ad ow (si Z 6 k ((xi Z 6 k) + 1)) hX u k hu hkn h1 h40 hne) q_457 q_459 qp_13 q_1 q_460 rfl rfl rfl (by decide +kernel) ⟨by decide, by decide⟩ rfl hl.1 (Nat.le_of_ble_eq_true rfl) d_KG_check_23 ⟨by decide, by decide⟩) (fun H locs hd => ?_)
    exact zfi hC hd hr hlk d_KG_check_26 (by unfold x_check; (repeat (first | (rw [if_pos]; rotate_left; first | assumption | decide) | (rw [if_neg]; rotate_left; first | assumption | decide))) <;> (try rfl)) (by unfold x_check; (repeat (first | (rw [if_pos]; rotate_left; first | assumption | decide) | (rw [if_neg]; rotate_left; first | assumption | decide))) <;> (try rfl))
set_option maxHeartbeats 4000000 in
theorem c_KG_stepOf0 (l : Launch) (G : Gt) (ad : Nat → Nat → Nat) (ow : Nat → Nat × Nat) (Z : Zt) (hX : XS Z) (u k : Nat) (hu : u < 5) (hkn : k < xn Z 0 1) (h0 : ¬ xn Z 9 u = 0) (h40 : xn Z 9 u ≤ 40) (hne : xc Z 7 u (xn Z 9 u - 1) = k + 1) (hk : xn Z 1 k = 0) (hdo : DownOk Z u) (hcp : ¬ xi Z 9 k = 0 → CheckPre Z k) (hwp : xi Z 9 k = 0 → WorkPre Z k) (hab : xn Z 6 k ≤ 2147483647 ∧ xn Z 4 k ≤ 2147483647) : Met l y_KG_stepOf w_KG_stepOf ({ frames := 5, cells := 0, slots := 0, locals := 111 }) (zPc G ad ow Z [.ref (ad 0 0), .int (nI u)]) (Qd G ad ow ((x_stepOf Z u).1) (some (.int (x_stepOf Z u).2))) 0 0 (zA G) := by
  refine zopen (cc := b_KG_stepOf) (maxL := 6) (ret := (some FieldType.int)) (by decide) rfl (Nat.le_of_ble_eq_true rfl) ?_
  intro p e s m below meth c ls hC hr hlk hnm hd hl
  have hC : Cx G p c m s _ "KeyGraph" b_KG_stepOf 6 := hC
  have hl : lv_has ls 6 [(0, .ref (ad 0 0)), (1, .int (nI u))] := hl
  have hx := hC.1
  have hb := hC.2.1
  have hlf : ¬ xn Z 1 k = 6 := by omega
  have hk40 := hX.k40
  have hne1 : xc Z 7 u (xn Z 9 u - 1) - 1 = k := by omega
  refine lv_aload_n hx hb d_KG_stepOf_0 rfl (lv_at hl 0 rfl) ?_
  refine zget hC hd (e_kg hX.kg) rfl i_KG 1 (by decide) q_81 (Or.inl rfl) (v := .ref (ad 8 0)) rfl d_KG_stepOf_1 ?_
  refine lv_iload_n hx hb d_KG_stepOf_4 rfl (lv_at hl 1 rfl) ?_
  refine zaaP (k := u) hC hd (e_piles hX.ps) (by omega) (by decide) rfl d_KG_stepOf_5 ?_
  refine lv_astore_n (lv' := [(2, .ref (ad 6 u)), (0, .ref (ad 0 0)), (1, .int (nI u))]) hx hb d_KG_stepOf_6 rfl hl (by decide) rfl (fun ls hl => ?_)
  refine lv_aload_n hx hb d_KG_stepOf_7 rfl (lv_at hl 0 rfl) ?_
  refine zgetN hC hd (e_pile (hX.pl hu)) rfl i_Pile 1 (by decide) z_74 (Or.inl rfl) (v := .int (nI (xn Z 9 u))) rfl d_KG_stepOf_8 ?_
  refine zi_ne (x := xn Z 9 u) (tgt := 16) (by omega) hx hb d_KG_stepOf_11 (by decide) (fun c11 => ?_) (fun c11 => absurd c11 (by omega))
  refine lv_aload_n hx hb d_KG_stepOf_16 rfl (lv_at hl 0 rfl) ?_
  refine zb_a (r := (ad 1 k)) hd (zrunV (n := 0) (rest := []) hC hd (e_pile (hX.pl hu)) rfl (c_Pile_top l G ad ow Z hX u hu (by omega) (by omega) k hne) q_394 q_395 q_396 q_5 q_397 rfl rfl rfl (by decide +kernel) ⟨by decide, by decide⟩ rfl hl.1 (Nat.le_of_ble_eq_true rfl) d_KG_stepOf_17 ⟨by decide, by decide⟩) (fun H locs hd => ?_)
  refine lv_astore_n (lv' := [(3, .ref (ad 1 k)), (2, .ref (ad 6 u)), (0, .ref (ad 0 0)), (1, .int (nI u))]) hx hb d_KG_stepOf_20 rfl hl (by decide) rfl (fun ls hl => ?_)
  refine lv_aload_n hx hb d_KG_stepOf_21 rfl (lv_at hl 0 rfl) ?_
  refine zgetN hC hd (e_key hkn) rfl i_Key 17 (by decide) z_137 (Or.inl rfl) (v := .int (xi Z 9 k)) rfl d_KG_stepOf_22 ?_
  refine lv_if_eq (tgt := 36) hx hb d_KG_stepOf_25 (by decide) (fun c25 => ?_) (fun c25 => ?_)
  · refine lv_aload_n hx hb d_KG_stepOf_36 rfl (lv_at hl 0 rfl) ?_
    refine zgetN hC hd (e_key hkn) rfl i_Key 10 (by decide) z_127 (Or.inl rfl) (v := .int (xi Z 7 k)) rfl d_KG_stepOf_37 ?_
    refine lv_if_eq (tgt := 51) hx hb d_KG_stepOf_40 (by decide) (fun c40 => ?_) (fun c40 => ?_)
    · refine lv_aload_n hx hb d_KG_stepOf_51 rfl (lv_at hl 0 rfl) ?_
      refine zgetN hC hd (e_key hkn) rfl i_Key 1 (by decide) z_116 (Or.inl rfl) (v := .ref (ad 2 k)) (congrArg (fun q => some (va_rf q)) (if_neg hlf)) d_KG_stepOf_52 ?_
      refine zb_i (r := (xi Z 12 k)) hd (zrunU (owner := "KeyGraph$Function") (n := 0) (rest := []) hC hd (e_f0 (hX.fn hkn) hk) rfl (c_Fun_fails0 l G ad ow Z k (hX.fn hkn) hk (hwp c25).1) q_469 q_471 q_476 q_470 q_12 q_477 rfl rfl rfl rfl (by decide +kernel) ⟨by decide, by decide⟩ rfl hl.1 (Nat.le_of_ble_eq_true rfl) d_KG_stepOf_55 ⟨by decide, by decide⟩) (fun H locs hd => ?_)
      refine lv_if_eq (tgt := 69) hx hb d_KG_stepOf_58 (by decide) (fun c58 => ?_) (fun c58 => ?_)
      · refine lv_aload_n hx hb d_KG_stepOf_69 rfl (lv_at hl 0 rfl) ?_
        refine zgetN hC hd (e_key hkn) rfl i_Key 1 (by decide) z_116 (Or.inl rfl) (v := .ref (ad 2 k)) (congrArg (fun q => some (va_rf q)) (if_neg hlf)) d_KG_stepOf_70 ?_
        refine zb_i (r := (x_next Z k)) hd (zrunU (owner := "KeyGraph$Function") (n := 0) (rest := []) hC hd (e_f0 (hX.fn hkn) hk) rfl (c_Fun_next0 l G ad ow Z k (hX.fn hkn) hk) q_478 q_480 q_487 q_479 q_12 q_488 rfl rfl rfl rfl (by decide +kernel) ⟨by decide, by decide⟩ rfl hl.1 (Nat.le_of_ble_eq_true rfl) d_KG_stepOf_73 ⟨by decide, by decide⟩) (fun H locs hd => ?_)
        refine lv_istore (lv' := [(4, .int (x_next Z k)), (3, .ref (ad 1 k)), (2, .ref (ad 6 u)), (0, .ref (ad 0 0)), (1, .int (nI u))]) hx hb d_KG_stepOf_76 hl (by decide) rfl (fun ls hl => ?_)
        refine lv_iload hx hb d_KG_stepOf_78 (lv_at hl 0 rfl) ?_
        refine lv_if_ge (tgt := 97) hx hb d_KG_stepOf_80 (by decide) (fun c80 => ?_) (fun c80 => ?_)
        · obtain ⟨hj, hak⟩ := (hwp c25).2.1 c80
          obtain ⟨j, hj9, ej⟩ := nI_of (Int32.not_lt.mpr c80)
          have ejc : (x_next Z k).toNatClampNeg = j := by rw [ej, nI_clamp hj9]
          rw [ejc] at hj
          rw [ej] at hl
          have hrow := (hX.2.2.2.1 k hkn).2 _ hj
          obtain ⟨q, hq⟩ : ∃ q, xc Z 4 (k + 2) j = q + 1 := ⟨xc Z 4 (k + 2) j - 1, by omega⟩
          have hq1 : xc Z 4 (k + 2) j - 1 = q := by omega
          have hqn : q < xn Z 0 1 := by omega
          refine lv_aload_n hx hb d_KG_stepOf_97 rfl (lv_at hl 1 rfl) ?_
          refine zgetN hC hd (e_key hkn) rfl i_Key 2 (by decide) z_118 (Or.inl rfl) (v := .ref (ad 3 (k + 2))) rfl d_KG_stepOf_98 ?_
          refine lv_iload hx hb d_KG_stepOf_101 (lv_at hl 0 rfl) ?_
          refine zb_a (r := (ad 1 q)) hd (zrunV (n := 1) (rest := []) hC hd (e_list (hX.l hkn)) rfl (c_get l G ad ow Z hX (k + 2) j q (hX.l hkn) hj hq) q_352 q_353 q_354 q_4 q_355 rfl rfl rfl (by decide +kernel) ⟨by decide, by decide⟩ rfl hl.1 (Nat.le_of_ble_eq_true rfl) d_KG_stepOf_103 ⟨by decide, by decide⟩) (fun H locs hd => ?_)
          refine zcast hC hd (e_key hqn) q_105 d_KG_stepOf_106 ?_
          refine lv_astore (lv' := [(5, .ref (ad 1 q)), (4, .int (nI j)), (3, .ref (ad 1 k)), (2, .ref (ad 6 u)), (0, .ref (ad 0 0)), (1, .int (nI u))]) hx hb d_KG_stepOf_109 hl (by decide) rfl (fun ls hl => ?_)
          refine lv_aload_n hx hb d_KG_stepOf_111 rfl (lv_at hl 4 rfl) ?_
          refine lv_aload hx hb d_KG_stepOf_112 (lv_at hl 0 rfl) ?_
          refine zb_i (r := (x_isSure Z q)) hd (zrunV (n := 1) (rest := []) hC hd (e_kg hX.kg) rfl (c_KG_isSure l G ad ow Z hX q (x_isSure Z q) hqn rfl) q_421 q_423 qp_9 q_1 q_424 rfl rfl rfl (by decide +kernel) ⟨by decide, by decide⟩ rfl hl.1 (Nat.le_of_ble_eq_true rfl) d_KG_stepOf_114 ⟨by decide, by decide⟩) (fun H locs hd => ?_)
          refine lv_if_ne (tgt := 128) hx hb d_KG_stepOf_117 (by decide) (fun c117 => ?_) (fun c117 => ?_)
          · refine lv_aload_n hx hb d_KG_stepOf_128 rfl (lv_at hl 2 rfl) ?_
            refine zgetN hC hd (e_key hkn) rfl i_Key 12 (by decide) z_131 (Or.inl rfl) (v := .ref (ad 5 (xn Z 8 k))) rfl d_KG_stepOf_129 ?_
            refine lv_aload_n hx hb d_KG_stepOf_132 rfl (lv_at hl 2 rfl) ?_
            refine zgetN hC hd (e_key hkn) rfl i_Key 14 (by decide) z_133 (Or.inl rfl) (v := .int (nI (xn Z 5 k))) rfl d_KG_stepOf_133 ?_
            refine lv_iload hx hb d_KG_stepOf_136 (lv_at hl 1 rfl) ?_
            refine ziaS (k := xn Z 5 k) (Z' := (sc Z 5 (xn Z 8 k) (xn Z 5 k) j)) hC hd (e_arr (hX.ar (hX.2.2.2.2.2 k hkn).2)) (by omega) (by decide) (u_arr (hX.ar (hX.2.2.2.2.2 k hkn).2)) d_KG_stepOf_138 (fun H locs hd => ?_)
            refine lv_aload_n hx hb d_KG_stepOf_139 rfl (lv_at hl 2 rfl) ?_
            refine lv_dup hx hb d_KG_stepOf_140 rfl ?_
            refine zgetN hC hd (e_key hkn) rfl i_Key 14 (by decide) z_133 (Or.inl rfl) (v := .int (nI (xn Z 5 k))) rfl d_KG_stepOf_141 ?_
            refine lv_iconst (v := 1) hx hb d_KG_stepOf_144 (by decide) ?_
            refine zaddN (x := xn Z 5 k) (y := 1) hx hb d_KG_stepOf_145 ?_
            refine zputN (Z' := (sn (sc Z 5 (xn Z 8 k) (xn Z 5 k) j) 5 k ((xn Z 5 k) + 1))) (v := .int (nI ((xn Z 5 k) + 1))) hC hd (e_key hkn) rfl i_Key t_Key t_Key_ok n_Key 14 (by decide) z_133 rfl rfl rfl rfl (Nat.le_of_ble_eq_true rfl) (u_askingC hkn) d_KG_stepOf_146 (fun H locs hd => ?_)
            refine lv_aload hx hb d_KG_stepOf_149 (lv_at hl 0 rfl) ?_
            refine zgetN hC hd (e_key hqn) rfl i_Key 3 (by decide) z_119 (Or.inl rfl) (v := .int (xi Z 1 q)) rfl d_KG_stepOf_151 ?_
            refine lv_iconst (v := 1) hx hb d_KG_stepOf_154 (by decide) ?_
            refine lv_icmp_eq (tgt := 166) hx hb d_KG_stepOf_155 (by decide) (fun c155 => ?_) (fun c155 => ?_)
            · refine lv_aload_n hx hb d_KG_stepOf_166 rfl (lv_at hl 2 rfl) ?_
              refine zgetN hC hd (e_key hkn) rfl i_Key 1 (by decide) z_116 (Or.inl rfl) (v := .ref (ad 2 k)) (congrArg (fun q => some (va_rf q)) (if_neg hlf)) d_KG_stepOf_167 ?_
              refine lv_aload hx hb d_KG_stepOf_170 (lv_at hl 0 rfl) ?_
              refine zgetN hC hd (e_key hqn) rfl i_Key 4 (by decide) z_120 (Or.inl rfl) (v := .long (xl Z 1 q)) rfl d_KG_stepOf_172 ?_
              refine zb_v hd (zrunU (owner := "KeyGraph$Function") (n := 1) (rest := []) hC hd (e_f0 (hX.fn hkn) hk) rfl (c_Fun_take0 l G ad ow (sn (sc Z 5 (xn Z 8 k) (xn Z 5 k) j) 5 k ((xn Z 5 k) + 1)) k (hX.fn hkn) hk (xl Z 1 q)) q_500 q_502 q_513 q_501 q_12 q_514 rfl rfl rfl rfl (by decide +kernel) ⟨by decide, by decide⟩ rfl hl.1 (Nat.le_of_ble_eq_true rfl) d_KG_stepOf_175 ⟨by decide, by decide⟩) (fun H locs hd => ?_)
              refine lv_bipush (v := 6) hx hb d_KG_stepOf_178 (by decide) ?_
              exact zfi hC hd hr hlk d_KG_stepOf_180 (by unfold x_stepOf x_step1 x_work; rw [hne1, ejc]; unfold x_workN; rw [hq1]; (repeat (first | (rw [if_pos]; rotate_left; first | assumption | decide) | (rw [if_neg]; rotate_left; first | assumption | decide))) <;> (try rfl)) (by unfold x_stepOf x_step1 x_work; rw [hne1, ejc]; unfold x_workN; rw [hq1]; (repeat (first | (rw [if_pos]; rotate_left; first | assumption | decide) | (rw [if_neg]; rotate_left; first | assumption | decide))) <;> (try rfl))
            · refine lv_aload_n hx hb d_KG_stepOf_158 rfl (lv_at hl 4 rfl) ?_
              refine lv_aload_n hx hb d_KG_stepOf_159 rfl (lv_at hl 3 rfl) ?_
              refine lv_iconst (v := 3) hx hb d_KG_stepOf_160 (by decide) ?_
              refine lv_lconst (v := 0) hx hb d_KG_stepOf_161 (by decide) ?_
              refine zb_i (r := 2) hd (zrunV (n := 3) (rest := []) hC hd (e_kg hX.kg) rfl (c_KG_ends l G ad ow (sn (sc Z 5 (xn Z 8 k) (xn Z 5 k) j) 5 k ((xn Z 5 k) + 1)) hX u k hu hkn (show 1 ≤ xn Z 9 u by omega) h40 hne 3 0) q_465 q_467 qp_15 q_1 q_468 rfl rfl rfl (by decide +kernel) ⟨by decide, by decide⟩ rfl hl.1 (Nat.le_of_ble_eq_true rfl) d_KG_stepOf_162 ⟨by decide, by decide⟩) (fun H locs hd => ?_)
              exact zfi hC hd hr hlk d_KG_stepOf_165 (by unfold x_stepOf x_step1 x_work; rw [hne1, ejc]; unfold x_workN; rw [hq1]; (repeat (first | (rw [if_pos]; rotate_left; first | assumption | decide) | (rw [if_neg]; rotate_left; first | assumption | decide))) <;> (try rfl)) (by unfold x_stepOf x_step1 x_work; rw [hne1, ejc]; unfold x_workN; rw [hq1]; (repeat (first | (rw [if_pos]; rotate_left; first | assumption | decide) | (rw [if_neg]; rotate_left; first | assumption | decide))) <;> (try rfl))
          · refine lv_aload_n hx hb d_KG_stepOf_120 rfl (lv_at hl 4 rfl) ?_
            refine lv_iload_n hx hb d_KG_stepOf_121 rfl (lv_at hl 5 rfl) ?_
            refine lv_aload hx hb d_KG_stepOf_122 (lv_at hl 0 rfl) ?_
            refine zb_i (r := ((x_goesDown Z u q).2)) hd (zrunV (n := 2) (rest := []) hC hd (e_kg hX.kg) rfl (c_KG_goesDown l G ad ow Z hX u q hu hqn (hdo q hqn c117).1 (hdo q hqn c117).2) q_461 q_463 qp_14 q_1 q_464 rfl rfl rfl (by decide +kernel) ⟨by decide, by decide⟩ rfl hl.1 (Nat.le_of_ble_eq_true rfl) d_KG_stepOf_124 ⟨by decide, by decide⟩) (fun H locs hd => ?_)
            exact zfi hC hd hr hlk d_KG_stepOf_127 (by unfold x_stepOf x_step1 x_work; rw [hne1, ejc]; unfold x_workN; rw [hq1]; (repeat (first | (rw [if_pos]; rotate_left; first | assumption | decide) | (rw [if_neg]; rotate_left; first | assumption | decide))) <;> (try rfl)) (by unfold x_stepOf x_step1 x_work; rw [hne1, ejc]; unfold x_workN; rw [hq1]; (repeat (first | (rw [if_pos]; rotate_left; first | assumption | decide) | (rw [if_neg]; rotate_left; first | assumption | decide))) <;> (try rfl))
        · refine lv_aload_n hx hb d_KG_stepOf_83 rfl (lv_at hl 3 rfl) ?_
          refine lv_aload_n hx hb d_KG_stepOf_84 rfl (lv_at hl 2 rfl) ?_
          refine lv_iconst (v := 1) hx hb d_KG_stepOf_85 (by decide) ?_
          refine lv_aload_n hx hb d_KG_stepOf_86 rfl (lv_at hl 1 rfl) ?_
          refine zgetN hC hd (e_key hkn) rfl i_Key 1 (by decide) z_116 (Or.inl rfl) (v := .ref (ad 2 k)) (congrArg (fun q => some (va_rf q)) (if_neg hlf)) d_KG_stepOf_87 ?_
          refine zb_l (r := (x_result Z k)) hd (zrunO (owner := "KeyGraph$Function") (n := 0) (rest := [.int 1, .ref (ad 6 u), .ref (ad 0 0)]) hC hd (e_f0 (hX.fn hkn) hk) rfl (c_Sum_result0 l G ad ow Z k (hX.fn hkn) hk) q_489 q_491 q_490 q_496 q_497 q_13 q_498 q_499 rfl rfl rfl (by decide +kernel) ⟨by decide, by decide⟩ rfl hl.1 (Nat.le_of_ble_eq_true rfl) d_KG_stepOf_90 ⟨by decide, by decide⟩) (fun H locs hd => ?_)
          refine zb_i (r := 2) hd (zrunV (n := 3) (rest := []) hC hd (e_kg hX.kg) rfl (c_KG_ends l G ad ow Z hX u k hu hkn (show 1 ≤ xn Z 9 u by omega) h40 hne 1 (x_result Z k)) q_465 q_467 qp_15 q_1 q_468 rfl rfl rfl (by decide +kernel) ⟨by decide, by decide⟩ rfl hl.1 (Nat.le_of_ble_eq_true rfl) d_KG_stepOf_93 ⟨by decide, by decide⟩) (fun H locs hd => ?_)
          exact zfi hC hd hr hlk d_KG_stepOf_96 (by unfold x_stepOf x_step1 x_work; rw [hne1]; (repeat (first | (rw [if_pos]; rotate_left; first | assumption | decide) | (rw [if_neg]; rotate_left; first | assumption | decide))) <;> (try rfl)) (by unfold x_stepOf x_step1 x_work; rw [hne1]; (repeat (first | (rw [if_pos]; rotate_left; first | assumption | decide) | (rw [if_neg]; rotate_left; first | assumption | decide))) <;> (try rfl))
      · refine lv_aload_n hx hb d_KG_stepOf_61 rfl (lv_at hl 2 rfl) ?_
        refine lv_aload_n hx hb d_KG_stepOf_62 rfl (lv_at hl 1 rfl) ?_
        refine lv_iconst (v := 2) hx hb d_KG_stepOf_63 (by decide) ?_
        refine lv_lconst (v := 0) hx hb d_KG_stepOf_64 (by decide) ?_
        refine zb_i (r := 2) hd (zrunV (n := 3) (rest := []) hC hd (e_kg hX.kg) rfl (c_KG_ends l G ad ow Z hX u k hu hkn (show 1 ≤ xn Z 9 u by omega) h40 hne 2 0) q_465 q_467 qp_15 q_1 q_468 rfl rfl rfl (by decide +kernel) ⟨by decide, by decide⟩ rfl hl.1 (Nat.le_of_ble_eq_true rfl) d_KG_stepOf_65 ⟨by decide, by decide⟩) (fun H locs hd => ?_)
        exact zfi hC hd hr hlk d_KG_stepOf_68 (by unfold x_stepOf x_step1 x_work; rw [hne1]; (repeat (first | (rw [if_pos]; rotate_left; first | assumption | decide) | (rw [if_neg]; rotate_left; first | assumption | decide))) <;> (try rfl)) (by unfold x_stepOf x_step1 x_work; rw [hne1]; (repeat (first | (rw [if_pos]; rotate_left; first | assumption | decide) | (rw [if_neg]; rotate_left; first | assumption | decide))) <;> (try rfl))
    · refine lv_aload_n hx hb d_KG_stepOf_43 rfl (lv_at hl 2 rfl) ?_
      refine lv_aload_n hx hb d_KG_stepOf_44 rfl (lv_at hl 1 rfl) ?_
      refine lv_iconst (v := 2) hx hb d_KG_stepOf_45 (by decide) ?_
      refine lv_lconst (v := 0) hx hb d_KG_stepOf_46 (by decide) ?_
      refine zb_i (r := 2) hd (zrunV (n := 3) (rest := []) hC hd (e_kg hX.kg) rfl (c_KG_ends l G ad ow Z hX u k hu hkn (show 1 ≤ xn Z 9 u by omega) h40 hne 2 0) q_465 q_467 qp_15 q_1 q_468 rfl rfl rfl (by decide +kernel) ⟨by decide, by decide⟩ rfl hl.1 (Nat.le_of_ble_eq_true rfl) d_KG_stepOf_47 ⟨by decide, by decide⟩) (fun H locs hd => ?_)
      exact zfi hC hd hr hlk d_KG_stepOf_50 (by unfold x_stepOf x_step1 x_work; rw [hne1]; (repeat (first | (rw [if_pos]; rotate_left; first | assumption | decide) | (rw [if_neg]; rotate_left; first | assumption | decide))) <;> (try rfl)) (by unfold x_stepOf x_step1 x_work; rw [hne1]; (repeat (first | (rw [if_pos]; rotate_left; first | assumption | decide) | (rw [if_neg]; rotate_left; first | assumption | decide))) <;> (try rfl))
  · refine lv_aload_n hx hb d_KG_stepOf_28 rfl (lv_at hl 2 rfl) ?_
    refine lv_iload_n hx hb d_KG_stepOf_29 rfl (lv_at hl 3 rfl) ?_
    refine lv_aload_n hx hb d_KG_stepOf_30 rfl (lv_at hl 1 rfl) ?_
    refine lv_aload_n hx hb d_KG_stepOf_31 rfl (lv_at hl 0 rfl) ?_
    refine zb_i (r := ((x_check Z u k).2)) hd (zrunV (n := 3) (rest := []) hC hd (e_kg hX.kg) rfl (c_KG_check l G ad ow Z hX u k hu hkn (by omega) h40 hne hdo (hcp c25) hab) q_453 q_455 qp_12 q_1 q_456 rfl rfl rfl (by decide +kernel) ⟨by decide, by decide⟩ rfl hl.1 (Nat.le_of_ble_eq_true rfl) d_KG_stepOf_32 ⟨by decide, by decide⟩) (fun H locs hd => ?_)
    exact zfi hC hd hr hlk d_KG_stepOf_35 (by unfold x_stepOf x_step1 x_work; rw [hne1]; (repeat (first | (rw [if_pos]; rotate_left; first | assumption | decide) | (rw [if_neg]; rotate_left; first | assumption | decide))) <;> (try rfl)) (by unfold x_stepOf x_step1 x_work; rw [hne1]; (repeat (first | (rw [if_pos]; rotate_left; first | assumption | decide) | (rw [if_neg]; rotate_left; first | assumption | decide))) <;> (try rfl))
set_option maxHeartbeats 4000000 in
theorem c_KG_stepOf1 (l : Launch) (G : Gt) (ad : Nat → Nat → Nat) (ow : Nat → Nat × Nat) (Z : Zt) (hX : XS Z) (u k : Nat) (hu : u < 5) (hkn : k < xn Z 0 1) (h0 : ¬ xn Z 9 u = 0) (h40 : xn Z 9 u ≤ 40) (hne : xc Z 7 u (xn Z 9 u - 1) = k + 1) (hk : xn Z 1 k = 1) (hdo : DownOk Z u) (hcp : ¬ xi Z 9 k = 0 → CheckPre Z k) (hwp : xi Z 9 k = 0 → WorkPre Z k) (hab : xn Z 6 k ≤ 2147483647 ∧ xn Z 4 k ≤ 2147483647) : Met l y_KG_stepOf w_KG_stepOf ({ frames := 5, cells := 0, slots := 0, locals := 111 }) (zPc G ad ow Z [.ref (ad 0 0), .int (nI u)]) (Qd G ad ow ((x_stepOf Z u).1) (some (.int (x_stepOf Z u).2))) 0 0 (zA G) := by
  refine zopen (cc := b_KG_stepOf) (maxL := 6) (ret := (some FieldType.int)) (by decide) rfl (Nat.le_of_ble_eq_true rfl) ?_
  intro p e s m below meth c ls hC hr hlk hnm hd hl
  have hC : Cx G p c m s _ "KeyGraph" b_KG_stepOf 6 := hC
  have hl : lv_has ls 6 [(0, .ref (ad 0 0)), (1, .int (nI u))] := hl
  have hx := hC.1
  have hb := hC.2.1
  have hlf : ¬ xn Z 1 k = 6 := by omega
  have hk40 := hX.k40
  have hne1 : xc Z 7 u (xn Z 9 u - 1) - 1 = k := by omega
  refine lv_aload_n hx hb d_KG_stepOf_0 rfl (lv_at hl 0 rfl) ?_
  refine zget hC hd (e_kg hX.kg) rfl i_KG 1 (by decide) q_81 (Or.inl rfl) (v := .ref (ad 8 0)) rfl d_KG_stepOf_1 ?_
  refine lv_iload_n hx hb d_KG_stepOf_4 rfl (lv_at hl 1 rfl) ?_
  refine zaaP (k := u) hC hd (e_piles hX.ps) (by omega) (by decide) rfl d_KG_stepOf_5 ?_
  refine lv_astore_n (lv' := [(2, .ref (ad 6 u)), (0, .ref (ad 0 0)), (1, .int (nI u))]) hx hb d_KG_stepOf_6 rfl hl (by decide) rfl (fun ls hl => ?_)
  refine lv_aload_n hx hb d_KG_stepOf_7 rfl (lv_at hl 0 rfl) ?_
  refine zgetN hC hd (e_pile (hX.pl hu)) rfl i_Pile 1 (by decide) z_74 (Or.inl rfl) (v := .int (nI (xn Z 9 u))) rfl d_KG_stepOf_8 ?_
  refine zi_ne (x := xn Z 9 u) (tgt := 16) (by omega) hx hb d_KG_stepOf_11 (by decide) (fun c11 => ?_) (fun c11 => absurd c11 (by omega))
  refine lv_aload_n hx hb d_KG_stepOf_16 rfl (lv_at hl 0 rfl) ?_
  refine zb_a (r := (ad 1 k)) hd (zrunV (n := 0) (rest := []) hC hd (e_pile (hX.pl hu)) rfl (c_Pile_top l G ad ow Z hX u hu (by omega) (by omega) k hne) q_394 q_395 q_396 q_5 q_397 rfl rfl rfl (by decide +kernel) ⟨by decide, by decide⟩ rfl hl.1 (Nat.le_of_ble_eq_true rfl) d_KG_stepOf_17 ⟨by decide, by decide⟩) (fun H locs hd => ?_)
  refine lv_astore_n (lv' := [(3, .ref (ad 1 k)), (2, .ref (ad 6 u)), (0, .ref (ad 0 0)), (1, .int (nI u))]) hx hb d_KG_stepOf_20 rfl hl (by decide) rfl (fun ls hl => ?_)
  refine lv_aload_n hx hb d_KG_stepOf_21 rfl (lv_at hl 0 rfl) ?_
  refine zgetN hC hd (e_key hkn) rfl i_Key 17 (by decide) z_137 (Or.inl rfl) (v := .int (xi Z 9 k)) rfl d_KG_stepOf_22 ?_
  refine lv_if_eq (tgt := 36) hx hb d_KG_stepOf_25 (by decide) (fun c25 => ?_) (fun c25 => ?_)
  · refine lv_aload_n hx hb d_KG_stepOf_36 rfl (lv_at hl 0 rfl) ?_
    refine zgetN hC hd (e_key hkn) rfl i_Key 10 (by decide) z_127 (Or.inl rfl) (v := .int (xi Z 7 k)) rfl d_KG_stepOf_37 ?_
    refine lv_if_eq (tgt := 51) hx hb d_KG_stepOf_40 (by decide) (fun c40 => ?_) (fun c40 => ?_)
    · refine lv_aload_n hx hb d_KG_stepOf_51 rfl (lv_at hl 0 rfl) ?_
      refine zgetN hC hd (e_key hkn) rfl i_Key 1 (by decide) z_116 (Or.inl rfl) (v := .ref (ad 2 k)) (congrArg (fun q => some (va_rf q)) (if_neg hlf)) d_KG_stepOf_52 ?_
      refine zb_i (r := (xi Z 12 k)) hd (zrunU (owner := "KeyGraph$Function") (n := 0) (rest := []) hC hd (e_f1 (hX.fn hkn) hk) rfl (c_Fun_fails1 l G ad ow Z k (hX.fn hkn) hk (hwp c25).1) q_469 q_471 q_473 q_470 q_12 q_477 rfl rfl rfl rfl (by decide +kernel) ⟨by decide, by decide⟩ rfl hl.1 (Nat.le_of_ble_eq_true rfl) d_KG_stepOf_55 ⟨by decide, by decide⟩) (fun H locs hd => ?_)
      refine lv_if_eq (tgt := 69) hx hb d_KG_stepOf_58 (by decide) (fun c58 => ?_) (fun c58 => ?_)
      · refine lv_aload_n hx hb d_KG_stepOf_69 rfl (lv_at hl 0 rfl) ?_
        refine zgetN hC hd (e_key hkn) rfl i_Key 1 (by decide) z_116 (Or.inl rfl) (v := .ref (ad 2 k)) (congrArg (fun q => some (va_rf q)) (if_neg hlf)) d_KG_stepOf_70 ?_
        refine zb_i (r := (x_next Z k)) hd (zrunU (owner := "KeyGraph$Function") (n := 0) (rest := []) hC hd (e_f1 (hX.fn hkn) hk) rfl (c_Fun_next1 l G ad ow Z k (hX.fn hkn) hk) q_478 q_480 q_484 q_479 q_12 q_488 rfl rfl rfl rfl (by decide +kernel) ⟨by decide, by decide⟩ rfl hl.1 (Nat.le_of_ble_eq_true rfl) d_KG_stepOf_73 ⟨by decide, by decide⟩) (fun H locs hd => ?_)
        refine lv_istore (lv' := [(4, .int (x_next Z k)), (3, .ref (ad 1 k)), (2, .ref (ad 6 u)), (0, .ref (ad 0 0)), (1, .int (nI u))]) hx hb d_KG_stepOf_76 hl (by decide) rfl (fun ls hl => ?_)
        refine lv_iload hx hb d_KG_stepOf_78 (lv_at hl 0 rfl) ?_
        refine lv_if_ge (tgt := 97) hx hb d_KG_stepOf_80 (by decide) (fun c80 => ?_) (fun c80 => ?_)
        · obtain ⟨hj, hak⟩ := (hwp c25).2.1 c80
          obtain ⟨j, hj9, ej⟩ := nI_of (Int32.not_lt.mpr c80)
          have ejc : (x_next Z k).toNatClampNeg = j := by rw [ej, nI_clamp hj9]
          rw [ejc] at hj
          rw [ej] at hl
          have hrow := (hX.2.2.2.1 k hkn).2 _ hj
          obtain ⟨q, hq⟩ : ∃ q, xc Z 4 (k + 2) j = q + 1 := ⟨xc Z 4 (k + 2) j - 1, by omega⟩
          have hq1 : xc Z 4 (k + 2) j - 1 = q := by omega
          have hqn : q < xn Z 0 1 := by omega
          refine lv_aload_n hx hb d_KG_stepOf_97 rfl (lv_at hl 1 rfl) ?_
          refine zgetN hC hd (e_key hkn) rfl i_Key 2 (by decide) z_118 (Or.inl rfl) (v := .ref (ad 3 (k + 2))) rfl d_KG_stepOf_98 ?_
          refine lv_iload hx hb d_KG_stepOf_101 (lv_at hl 0 rfl) ?_
          refine zb_a (r := (ad 1 q)) hd (zrunV (n := 1) (rest := []) hC hd (e_list (hX.l hkn)) rfl (c_get l G ad ow Z hX (k + 2) j q (hX.l hkn) hj hq) q_352 q_353 q_354 q_4 q_355 rfl rfl rfl (by decide +kernel) ⟨by decide, by decide⟩ rfl hl.1 (Nat.le_of_ble_eq_true rfl) d_KG_stepOf_103 ⟨by decide, by decide⟩) (fun H locs hd => ?_)
          refine zcast hC hd (e_key hqn) q_105 d_KG_stepOf_106 ?_
          refine lv_astore (lv' := [(5, .ref (ad 1 q)), (4, .int (nI j)), (3, .ref (ad 1 k)), (2, .ref (ad 6 u)), (0, .ref (ad 0 0)), (1, .int (nI u))]) hx hb d_KG_stepOf_109 hl (by decide) rfl (fun ls hl => ?_)
          refine lv_aload_n hx hb d_KG_stepOf_111 rfl (lv_at hl 4 rfl) ?_
          refine lv_aload hx hb d_KG_stepOf_112 (lv_at hl 0 rfl) ?_
          refine zb_i (r := (x_isSure Z q)) hd (zrunV (n := 1) (rest := []) hC hd (e_kg hX.kg) rfl (c_KG_isSure l G ad ow Z hX q (x_isSure Z q) hqn rfl) q_421 q_423 qp_9 q_1 q_424 rfl rfl rfl (by decide +kernel) ⟨by decide, by decide⟩ rfl hl.1 (Nat.le_of_ble_eq_true rfl) d_KG_stepOf_114 ⟨by decide, by decide⟩) (fun H locs hd => ?_)
          refine lv_if_ne (tgt := 128) hx hb d_KG_stepOf_117 (by decide) (fun c117 => ?_) (fun c117 => ?_)
          · refine lv_aload_n hx hb d_KG_stepOf_128 rfl (lv_at hl 2 rfl) ?_
            refine zgetN hC hd (e_key hkn) rfl i_Key 12 (by decide) z_131 (Or.inl rfl) (v := .ref (ad 5 (xn Z 8 k))) rfl d_KG_stepOf_129 ?_
            refine lv_aload_n hx hb d_KG_stepOf_132 rfl (lv_at hl 2 rfl) ?_
            refine zgetN hC hd (e_key hkn) rfl i_Key 14 (by decide) z_133 (Or.inl rfl) (v := .int (nI (xn Z 5 k))) rfl d_KG_stepOf_133 ?_
            refine lv_iload hx hb d_KG_stepOf_136 (lv_at hl 1 rfl) ?_
            refine ziaS (k := xn Z 5 k) (Z' := (sc Z 5 (xn Z 8 k) (xn Z 5 k) j)) hC hd (e_arr (hX.ar (hX.2.2.2.2.2 k hkn).2)) (by omega) (by decide) (u_arr (hX.ar (hX.2.2.2.2.2 k hkn).2)) d_KG_stepOf_138 (fun H locs hd => ?_)
            refine lv_aload_n hx hb d_KG_stepOf_139 rfl (lv_at hl 2 rfl) ?_
            refine lv_dup hx hb d_KG_stepOf_140 rfl ?_
            refine zgetN hC hd (e_key hkn) rfl i_Key 14 (by decide) z_133 (Or.inl rfl) (v := .int (nI (xn Z 5 k))) rfl d_KG_stepOf_141 ?_
            refine lv_iconst (v := 1) hx hb d_KG_stepOf_144 (by decide) ?_
            refine zaddN (x := xn Z 5 k) (y := 1) hx hb d_KG_stepOf_145 ?_
            refine zputN (Z' := (sn (sc Z 5 (xn Z 8 k) (xn Z 5 k) j) 5 k ((xn Z 5 k) + 1))) (v := .int (nI ((xn Z 5 k) + 1))) hC hd (e_key hkn) rfl i_Key t_Key t_Key_ok n_Key 14 (by decide) z_133 rfl rfl rfl rfl (Nat.le_of_ble_eq_true rfl) (u_askingC hkn) d_KG_stepOf_146 (fun H locs hd => ?_)
            refine lv_aload hx hb d_KG_stepOf_149 (lv_at hl 0 rfl) ?_
            refine zgetN hC hd (e_key hqn) rfl i_Key 3 (by decide) z_119 (Or.inl rfl) (v := .int (xi Z 1 q)) rfl d_KG_stepOf_151 ?_
            refine lv_iconst (v := 1) hx hb d_KG_stepOf_154 (by decide) ?_
            refine lv_icmp_eq (tgt := 166) hx hb d_KG_stepOf_155 (by decide) (fun c155 => ?_) (fun c155 => ?_)
            · refine lv_aload_n hx hb d_KG_stepOf_166 rfl (lv_at hl 2 rfl) ?_
              refine zgetN hC hd (e_key hkn) rfl i_Key 1 (by decide) z_116 (Or.inl rfl) (v := .ref (ad 2 k)) (congrArg (fun q => some (va_rf q)) (if_neg hlf)) d_KG_stepOf_167 ?_
              refine lv_aload hx hb d_KG_stepOf_170 (lv_at hl 0 rfl) ?_
              refine zgetN hC hd (e_key hqn) rfl i_Key 4 (by decide) z_120 (Or.inl rfl) (v := .long (xl Z 1 q)) rfl d_KG_stepOf_172 ?_
              refine zb_v hd (zrunU (owner := "KeyGraph$Function") (n := 1) (rest := []) hC hd (e_f1 (hX.fn hkn) hk) rfl (c_Fun_take1 l G ad ow (sn (sc Z 5 (xn Z 8 k) (xn Z 5 k) j) 5 k ((xn Z 5 k) + 1)) k (hX.fn hkn) hk (xl Z 1 q)) q_500 q_502 q_510 q_501 q_12 q_514 rfl rfl rfl rfl (by decide +kernel) ⟨by decide, by decide⟩ rfl hl.1 (Nat.le_of_ble_eq_true rfl) d_KG_stepOf_175 ⟨by decide, by decide⟩) (fun H locs hd => ?_)
              refine lv_bipush (v := 6) hx hb d_KG_stepOf_178 (by decide) ?_
              exact zfi hC hd hr hlk d_KG_stepOf_180 (by unfold x_stepOf x_step1 x_work; rw [hne1, ejc]; unfold x_workN; rw [hq1]; (repeat (first | (rw [if_pos]; rotate_left; first | assumption | decide) | (rw [if_neg]; rotate_left; first | assumption | decide))) <;> (try rfl)) (by unfold x_stepOf x_step1 x_work; rw [hne1, ejc]; unfold x_workN; rw [hq1]; (repeat (first | (rw [if_pos]; rotate_left; first | assumption | decide) | (rw [if_neg]; rotate_left; first | assumption | decide))) <;> (try rfl))
            · refine lv_aload_n hx hb d_KG_stepOf_158 rfl (lv_at hl 4 rfl) ?_
              refine lv_aload_n hx hb d_KG_stepOf_159 rfl (lv_at hl 3 rfl) ?_
              refine lv_iconst (v := 3) hx hb d_KG_stepOf_160 (by decide) ?_
              refine lv_lconst (v := 0) hx hb d_KG_stepOf_161 (by decide) ?_
              refine zb_i (r := 2) hd (zrunV (n := 3) (rest := []) hC hd (e_kg hX.kg) rfl (c_KG_ends l G ad ow (sn (sc Z 5 (xn Z 8 k) (xn Z 5 k) j) 5 k ((xn Z 5 k) + 1)) hX u k hu hkn (show 1 ≤ xn Z 9 u by omega) h40 hne 3 0) q_465 q_467 qp_15 q_1 q_468 rfl rfl rfl (by decide +kernel) ⟨by decide, by decide⟩ rfl hl.1 (Nat.le_of_ble_eq_true rfl) d_KG_stepOf_162 ⟨by decide, by decide⟩) (fun H locs hd => ?_)
              exact zfi hC hd hr hlk d_KG_stepOf_165 (by unfold x_stepOf x_step1 x_work; rw [hne1, ejc]; unfold x_workN; rw [hq1]; (repeat (first | (rw [if_pos]; rotate_left; first | assumption | decide) | (rw [if_neg]; rotate_left; first | assumption | decide))) <;> (try rfl)) (by unfold x_stepOf x_step1 x_work; rw [hne1, ejc]; unfold x_workN; rw [hq1]; (repeat (first | (rw [if_pos]; rotate_left; first | assumption | decide) | (rw [if_neg]; rotate_left; first | assumption | decide))) <;> (try rfl))
          · refine lv_aload_n hx hb d_KG_stepOf_120 rfl (lv_at hl 4 rfl) ?_
            refine lv_iload_n hx hb d_KG_stepOf_121 rfl (lv_at hl 5 rfl) ?_
            refine lv_aload hx hb d_KG_stepOf_122 (lv_at hl 0 rfl) ?_
            refine zb_i (r := ((x_goesDown Z u q).2)) hd (zrunV (n := 2) (rest := []) hC hd (e_kg hX.kg) rfl (c_KG_goesDown l G ad ow Z hX u q hu hqn (hdo q hqn c117).1 (hdo q hqn c117).2) q_461 q_463 qp_14 q_1 q_464 rfl rfl rfl (by decide +kernel) ⟨by decide, by decide⟩ rfl hl.1 (Nat.le_of_ble_eq_true rfl) d_KG_stepOf_124 ⟨by decide, by decide⟩) (fun H locs hd => ?_)
            exact zfi hC hd hr hlk d_KG_stepOf_127 (by unfold x_stepOf x_step1 x_work; rw [hne1, ejc]; unfold x_workN; rw [hq1]; (repeat (first | (rw [if_pos]; rotate_left; first | assumption | decide) | (rw [if_neg]; rotate_left; first | assumption | decide))) <;> (try rfl)) (by unfold x_stepOf x_step1 x_work; rw [hne1, ejc]; unfold x_workN; rw [hq1]; (repeat (first | (rw [if_pos]; rotate_left; first | assumption | decide) | (rw [if_neg]; rotate_left; first | assumption | decide))) <;> (try rfl))
        · refine lv_aload_n hx hb d_KG_stepOf_83 rfl (lv_at hl 3 rfl) ?_
          refine lv_aload_n hx hb d_KG_stepOf_84 rfl (lv_at hl 2 rfl) ?_
          refine lv_iconst (v := 1) hx hb d_KG_stepOf_85 (by decide) ?_
          refine lv_aload_n hx hb d_KG_stepOf_86 rfl (lv_at hl 1 rfl) ?_
          refine zgetN hC hd (e_key hkn) rfl i_Key 1 (by decide) z_116 (Or.inl rfl) (v := .ref (ad 2 k)) (congrArg (fun q => some (va_rf q)) (if_neg hlf)) d_KG_stepOf_87 ?_
          refine zb_l (r := (x_result Z k)) hd (zrunU (owner := "KeyGraph$Function") (n := 0) (rest := [.int 1, .ref (ad 6 u), .ref (ad 0 0)]) hC hd (e_f1 (hX.fn hkn) hk) rfl (c_Fun_result1 l G ad ow Z k (hX.fn hkn) hk) q_489 q_491 q_493 q_490 q_12 q_499 rfl rfl rfl rfl (by decide +kernel) ⟨by decide, by decide⟩ rfl hl.1 (Nat.le_of_ble_eq_true rfl) d_KG_stepOf_90 ⟨by decide, by decide⟩) (fun H locs hd => ?_)
          refine zb_i (r := 2) hd (zrunV (n := 3) (rest := []) hC hd (e_kg hX.kg) rfl (c_KG_ends l G ad ow Z hX u k hu hkn (show 1 ≤ xn Z 9 u by omega) h40 hne 1 (x_result Z k)) q_465 q_467 qp_15 q_1 q_468 rfl rfl rfl (by decide +kernel) ⟨by decide, by decide⟩ rfl hl.1 (Nat.le_of_ble_eq_true rfl) d_KG_stepOf_93 ⟨by decide, by decide⟩) (fun H locs hd => ?_)
          exact zfi hC hd hr hlk d_KG_stepOf_96 (by unfold x_stepOf x_step1 x_work; rw [hne1]; (repeat (first | (rw [if_pos]; rotate_left; first | assumption | decide) | (rw [if_neg]; rotate_left; first | assumption | decide))) <;> (try rfl)) (by unfold x_stepOf x_step1 x_work; rw [hne1]; (repeat (first | (rw [if_pos]; rotate_left; first | assumption | decide) | (rw [if_neg]; rotate_left; first | assumption | decide))) <;> (try rfl))
      · refine lv_aload_n hx hb d_KG_stepOf_61 rfl (lv_at hl 2 rfl) ?_
        refine lv_aload_n hx hb d_KG_stepOf_62 rfl (lv_at hl 1 rfl) ?_
        refine lv_iconst (v := 2) hx hb d_KG_stepOf_63 (by decide) ?_
        refine lv_lconst (v := 0) hx hb d_KG_stepOf_64 (by decide) ?_
        refine zb_i (r := 2) hd (zrunV (n := 3) (rest := []) hC hd (e_kg hX.kg) rfl (c_KG_ends l G ad ow Z hX u k hu hkn (show 1 ≤ xn Z 9 u by omega) h40 hne 2 0) q_465 q_467 qp_15 q_1 q_468 rfl rfl rfl (by decide +kernel) ⟨by decide, by decide⟩ rfl hl.1 (Nat.le_of_ble_eq_true rfl) d_KG_stepOf_65 ⟨by decide, by decide⟩) (fun H locs hd => ?_)
        exact zfi hC hd hr hlk d_KG_stepOf_68 (by unfold x_stepOf x_step1 x_work; rw [hne1]; (repeat (first | (rw [if_pos]; rotate_left; first | assumption | decide) | (rw [if_neg]; rotate_left; first | assumption | decide))) <;> (try rfl)) (by unfold x_stepOf x_step1 x_work; rw [hne1]; (repeat (first | (rw [if_pos]; rotate_left; first | assumption | decide) | (rw [if_neg]; rotate_left; first | assumption | decide))) <;> (try rfl))
    · refine lv_aload_n hx hb d_KG_stepOf_43 rfl (lv_at hl 2 rfl) ?_
      refine lv_aload_n hx hb d_KG_stepOf_44 rfl (lv_at hl 1 rfl) ?_
      refine lv_iconst (v := 2) hx hb d_KG_stepOf_45 (by decide) ?_
      refine lv_lconst (v := 0) hx hb d_KG_stepOf_46 (by decide) ?_
      refine zb_i (r := 2) hd (zrunV (n := 3) (rest := []) hC hd (e_kg hX.kg) rfl (c_KG_ends l G ad ow Z hX u k hu hkn (show 1 ≤ xn Z 9 u by omega) h40 hne 2 0) q_465 q_467 qp_15 q_1 q_468 rfl rfl rfl (by decide +kernel) ⟨by decide, by decide⟩ rfl hl.1 (Nat.le_of_ble_eq_true rfl) d_KG_stepOf_47 ⟨by decide, by decide⟩) (fun H locs hd => ?_)
      exact zfi hC hd hr hlk d_KG_stepOf_50 (by unfold x_stepOf x_step1 x_work; rw [hne1]; (repeat (first | (rw [if_pos]; rotate_left; first | assumption | decide) | (rw [if_neg]; rotate_left; first | assumption | decide))) <;> (try rfl)) (by unfold x_stepOf x_step1 x_work; rw [hne1]; (repeat (first | (rw [if_pos]; rotate_left; first | assumption | decide) | (rw [if_neg]; rotate_left; first | assumption | decide))) <;> (try rfl))
  · refine lv_aload_n hx hb d_KG_stepOf_28 rfl (lv_at hl 2 rfl) ?_
    refine lv_iload_n hx hb d_KG_stepOf_29 rfl (lv_at hl 3 rfl) ?_
    refine lv_aload_n hx hb d_KG_stepOf_30 rfl (lv_at hl 1 rfl) ?_
    refine lv_aload_n hx hb d_KG_stepOf_31 rfl (lv_at hl 0 rfl) ?_
    refine zb_i (r := ((x_check Z u k).2)) hd (zrunV (n := 3) (rest := []) hC hd (e_kg hX.kg) rfl (c_KG_check l G ad ow Z hX u k hu hkn (by omega) h40 hne hdo (hcp c25) hab) q_453 q_455 qp_12 q_1 q_456 rfl rfl rfl (by decide +kernel) ⟨by decide, by decide⟩ rfl hl.1 (Nat.le_of_ble_eq_true rfl) d_KG_stepOf_32 ⟨by decide, by decide⟩) (fun H locs hd => ?_)
    exact zfi hC hd hr hlk d_KG_stepOf_35 (by unfold x_stepOf x_step1 x_work; rw [hne1]; (repeat (first | (rw [if_pos]; rotate_left; first | assumption | decide) | (rw [if_neg]; rotate_left; first | assumption | decide))) <;> (try rfl)) (by unfold x_stepOf x_step1 x_work; rw [hne1]; (repeat (first | (rw [if_pos]; rotate_left; first | assumption | decide) | (rw [if_neg]; rotate_left; first | assumption | decide))) <;> (try rfl))
set_option maxHeartbeats 4000000 in
theorem c_KG_stepOf2 (l : Launch) (G : Gt) (ad : Nat → Nat → Nat) (ow : Nat → Nat × Nat) (Z : Zt) (hX : XS Z) (u k : Nat) (hu : u < 5) (hkn : k < xn Z 0 1) (h0 : ¬ xn Z 9 u = 0) (h40 : xn Z 9 u ≤ 40) (hne : xc Z 7 u (xn Z 9 u - 1) = k + 1) (hk : xn Z 1 k = 2) (hdo : DownOk Z u) (hcp : ¬ xi Z 9 k = 0 → CheckPre Z k) (hwp : xi Z 9 k = 0 → WorkPre Z k) (hab : xn Z 6 k ≤ 2147483647 ∧ xn Z 4 k ≤ 2147483647) : Met l y_KG_stepOf w_KG_stepOf ({ frames := 5, cells := 0, slots := 0, locals := 111 }) (zPc G ad ow Z [.ref (ad 0 0), .int (nI u)]) (Qd G ad ow ((x_stepOf Z u).1) (some (.int (x_stepOf Z u).2))) 0 0 (zA G) := by
  refine zopen (cc := b_KG_stepOf) (maxL := 6) (ret := (some FieldType.int)) (by decide) rfl (Nat.le_of_ble_eq_true rfl) ?_
  intro p e s m below meth c ls hC hr hlk hnm hd hl
  have hC : Cx G p c m s _ "KeyGraph" b_KG_stepOf 6 := hC
  have hl : lv_has ls 6 [(0, .ref (ad 0 0)), (1, .int (nI u))] := hl
  have hx := hC.1
  have hb := hC.2.1
  have hlf : ¬ xn Z 1 k = 6 := by omega
  have hk40 := hX.k40
  have hne1 : xc Z 7 u (xn Z 9 u - 1) - 1 = k := by omega
  refine lv_aload_n hx hb d_KG_stepOf_0 rfl (lv_at hl 0 rfl) ?_
  refine zget hC hd (e_kg hX.kg) rfl i_KG 1 (by decide) q_81 (Or.inl rfl) (v := .ref (ad 8 0)) rfl d_KG_stepOf_1 ?_
  refine lv_iload_n hx hb d_KG_stepOf_4 rfl (lv_at hl 1 rfl) ?_
  refine zaaP (k := u) hC hd (e_piles hX.ps) (by omega) (by decide) rfl d_KG_stepOf_5 ?_
  refine lv_astore_n (lv' := [(2, .ref (ad 6 u)), (0, .ref (ad 0 0)), (1, .int (nI u))]) hx hb d_KG_stepOf_6 rfl hl (by decide) rfl (fun ls hl => ?_)
  refine lv_aload_n hx hb d_KG_stepOf_7 rfl (lv_at hl 0 rfl) ?_
  refine zgetN hC hd (e_pile (hX.pl hu)) rfl i_Pile 1 (by decide) z_74 (Or.inl rfl) (v := .int (nI (xn Z 9 u))) rfl d_KG_stepOf_8 ?_
  refine zi_ne (x := xn Z 9 u) (tgt := 16) (by omega) hx hb d_KG_stepOf_11 (by decide) (fun c11 => ?_) (fun c11 => absurd c11 (by omega))
  refine lv_aload_n hx hb d_KG_stepOf_16 rfl (lv_at hl 0 rfl) ?_
  refine zb_a (r := (ad 1 k)) hd (zrunV (n := 0) (rest := []) hC hd (e_pile (hX.pl hu)) rfl (c_Pile_top l G ad ow Z hX u hu (by omega) (by omega) k hne) q_394 q_395 q_396 q_5 q_397 rfl rfl rfl (by decide +kernel) ⟨by decide, by decide⟩ rfl hl.1 (Nat.le_of_ble_eq_true rfl) d_KG_stepOf_17 ⟨by decide, by decide⟩) (fun H locs hd => ?_)
  refine lv_astore_n (lv' := [(3, .ref (ad 1 k)), (2, .ref (ad 6 u)), (0, .ref (ad 0 0)), (1, .int (nI u))]) hx hb d_KG_stepOf_20 rfl hl (by decide) rfl (fun ls hl => ?_)
  refine lv_aload_n hx hb d_KG_stepOf_21 rfl (lv_at hl 0 rfl) ?_
  refine zgetN hC hd (e_key hkn) rfl i_Key 17 (by decide) z_137 (Or.inl rfl) (v := .int (xi Z 9 k)) rfl d_KG_stepOf_22 ?_
  refine lv_if_eq (tgt := 36) hx hb d_KG_stepOf_25 (by decide) (fun c25 => ?_) (fun c25 => ?_)
  · refine lv_aload_n hx hb d_KG_stepOf_36 rfl (lv_at hl 0 rfl) ?_
    refine zgetN hC hd (e_key hkn) rfl i_Key 10 (by decide) z_127 (Or.inl rfl) (v := .int (xi Z 7 k)) rfl d_KG_stepOf_37 ?_
    refine lv_if_eq (tgt := 51) hx hb d_KG_stepOf_40 (by decide) (fun c40 => ?_) (fun c40 => ?_)
    · refine lv_aload_n hx hb d_KG_stepOf_51 rfl (lv_at hl 0 rfl) ?_
      refine zgetN hC hd (e_key hkn) rfl i_Key 1 (by decide) z_116 (Or.inl rfl) (v := .ref (ad 2 k)) (congrArg (fun q => some (va_rf q)) (if_neg hlf)) d_KG_stepOf_52 ?_
      refine zb_i (r := (xi Z 12 k)) hd (zrunU (owner := "KeyGraph$Function") (n := 0) (rest := []) hC hd (e_f2 (hX.fn hkn) hk) rfl (c_Fun_fails2 l G ad ow Z k (hX.fn hkn) hk (hwp c25).1) q_469 q_471 q_472 q_470 q_12 q_477 rfl rfl rfl rfl (by decide +kernel) ⟨by decide, by decide⟩ rfl hl.1 (Nat.le_of_ble_eq_true rfl) d_KG_stepOf_55 ⟨by decide, by decide⟩) (fun H locs hd => ?_)
      refine lv_if_eq (tgt := 69) hx hb d_KG_stepOf_58 (by decide) (fun c58 => ?_) (fun c58 => ?_)
      · refine lv_aload_n hx hb d_KG_stepOf_69 rfl (lv_at hl 0 rfl) ?_
        refine zgetN hC hd (e_key hkn) rfl i_Key 1 (by decide) z_116 (Or.inl rfl) (v := .ref (ad 2 k)) (congrArg (fun q => some (va_rf q)) (if_neg hlf)) d_KG_stepOf_70 ?_
        refine zb_i (r := (x_next Z k)) hd (zrunO (owner := "KeyGraph$Function") (n := 0) (rest := []) hC hd (e_f2 (hX.fn hkn) hk) rfl (c_Choice_next l G ad ow Z k (hX.fn hkn) hk) q_478 q_480 q_479 q_481 q_482 q_15 q_483 q_488 rfl rfl rfl (by decide +kernel) ⟨by decide, by decide⟩ rfl hl.1 (Nat.le_of_ble_eq_true rfl) d_KG_stepOf_73 ⟨by decide, by decide⟩) (fun H locs hd => ?_)
        refine lv_istore (lv' := [(4, .int (x_next Z k)), (3, .ref (ad 1 k)), (2, .ref (ad 6 u)), (0, .ref (ad 0 0)), (1, .int (nI u))]) hx hb d_KG_stepOf_76 hl (by decide) rfl (fun ls hl => ?_)
        refine lv_iload hx hb d_KG_stepOf_78 (lv_at hl 0 rfl) ?_
        refine lv_if_ge (tgt := 97) hx hb d_KG_stepOf_80 (by decide) (fun c80 => ?_) (fun c80 => ?_)
        · obtain ⟨hj, hak⟩ := (hwp c25).2.1 c80
          obtain ⟨j, hj9, ej⟩ := nI_of (Int32.not_lt.mpr c80)
          have ejc : (x_next Z k).toNatClampNeg = j := by rw [ej, nI_clamp hj9]
          rw [ejc] at hj
          rw [ej] at hl
          have hrow := (hX.2.2.2.1 k hkn).2 _ hj
          obtain ⟨q, hq⟩ : ∃ q, xc Z 4 (k + 2) j = q + 1 := ⟨xc Z 4 (k + 2) j - 1, by omega⟩
          have hq1 : xc Z 4 (k + 2) j - 1 = q := by omega
          have hqn : q < xn Z 0 1 := by omega
          refine lv_aload_n hx hb d_KG_stepOf_97 rfl (lv_at hl 1 rfl) ?_
          refine zgetN hC hd (e_key hkn) rfl i_Key 2 (by decide) z_118 (Or.inl rfl) (v := .ref (ad 3 (k + 2))) rfl d_KG_stepOf_98 ?_
          refine lv_iload hx hb d_KG_stepOf_101 (lv_at hl 0 rfl) ?_
          refine zb_a (r := (ad 1 q)) hd (zrunV (n := 1) (rest := []) hC hd (e_list (hX.l hkn)) rfl (c_get l G ad ow Z hX (k + 2) j q (hX.l hkn) hj hq) q_352 q_353 q_354 q_4 q_355 rfl rfl rfl (by decide +kernel) ⟨by decide, by decide⟩ rfl hl.1 (Nat.le_of_ble_eq_true rfl) d_KG_stepOf_103 ⟨by decide, by decide⟩) (fun H locs hd => ?_)
          refine zcast hC hd (e_key hqn) q_105 d_KG_stepOf_106 ?_
          refine lv_astore (lv' := [(5, .ref (ad 1 q)), (4, .int (nI j)), (3, .ref (ad 1 k)), (2, .ref (ad 6 u)), (0, .ref (ad 0 0)), (1, .int (nI u))]) hx hb d_KG_stepOf_109 hl (by decide) rfl (fun ls hl => ?_)
          refine lv_aload_n hx hb d_KG_stepOf_111 rfl (lv_at hl 4 rfl) ?_
          refine lv_aload hx hb d_KG_stepOf_112 (lv_at hl 0 rfl) ?_
          refine zb_i (r := (x_isSure Z q)) hd (zrunV (n := 1) (rest := []) hC hd (e_kg hX.kg) rfl (c_KG_isSure l G ad ow Z hX q (x_isSure Z q) hqn rfl) q_421 q_423 qp_9 q_1 q_424 rfl rfl rfl (by decide +kernel) ⟨by decide, by decide⟩ rfl hl.1 (Nat.le_of_ble_eq_true rfl) d_KG_stepOf_114 ⟨by decide, by decide⟩) (fun H locs hd => ?_)
          refine lv_if_ne (tgt := 128) hx hb d_KG_stepOf_117 (by decide) (fun c117 => ?_) (fun c117 => ?_)
          · refine lv_aload_n hx hb d_KG_stepOf_128 rfl (lv_at hl 2 rfl) ?_
            refine zgetN hC hd (e_key hkn) rfl i_Key 12 (by decide) z_131 (Or.inl rfl) (v := .ref (ad 5 (xn Z 8 k))) rfl d_KG_stepOf_129 ?_
            refine lv_aload_n hx hb d_KG_stepOf_132 rfl (lv_at hl 2 rfl) ?_
            refine zgetN hC hd (e_key hkn) rfl i_Key 14 (by decide) z_133 (Or.inl rfl) (v := .int (nI (xn Z 5 k))) rfl d_KG_stepOf_133 ?_
            refine lv_iload hx hb d_KG_stepOf_136 (lv_at hl 1 rfl) ?_
            refine ziaS (k := xn Z 5 k) (Z' := (sc Z 5 (xn Z 8 k) (xn Z 5 k) j)) hC hd (e_arr (hX.ar (hX.2.2.2.2.2 k hkn).2)) (by omega) (by decide) (u_arr (hX.ar (hX.2.2.2.2.2 k hkn).2)) d_KG_stepOf_138 (fun H locs hd => ?_)
            refine lv_aload_n hx hb d_KG_stepOf_139 rfl (lv_at hl 2 rfl) ?_
            refine lv_dup hx hb d_KG_stepOf_140 rfl ?_
            refine zgetN hC hd (e_key hkn) rfl i_Key 14 (by decide) z_133 (Or.inl rfl) (v := .int (nI (xn Z 5 k))) rfl d_KG_stepOf_141 ?_
            refine lv_iconst (v := 1) hx hb d_KG_stepOf_144 (by decide) ?_
            refine zaddN (x := xn Z 5 k) (y := 1) hx hb d_KG_stepOf_145 ?_
            refine zputN (Z' := (sn (sc Z 5 (xn Z 8 k) (xn Z 5 k) j) 5 k ((xn Z 5 k) + 1))) (v := .int (nI ((xn Z 5 k) + 1))) hC hd (e_key hkn) rfl i_Key t_Key t_Key_ok n_Key 14 (by decide) z_133 rfl rfl rfl rfl (Nat.le_of_ble_eq_true rfl) (u_askingC hkn) d_KG_stepOf_146 (fun H locs hd => ?_)
            refine lv_aload hx hb d_KG_stepOf_149 (lv_at hl 0 rfl) ?_
            refine zgetN hC hd (e_key hqn) rfl i_Key 3 (by decide) z_119 (Or.inl rfl) (v := .int (xi Z 1 q)) rfl d_KG_stepOf_151 ?_
            refine lv_iconst (v := 1) hx hb d_KG_stepOf_154 (by decide) ?_
            refine lv_icmp_eq (tgt := 166) hx hb d_KG_stepOf_155 (by decide) (fun c155 => ?_) (fun c155 => ?_)
            · refine lv_aload_n hx hb d_KG_stepOf_166 rfl (lv_at hl 2 rfl) ?_
              refine zgetN hC hd (e_key hkn) rfl i_Key 1 (by decide) z_116 (Or.inl rfl) (v := .ref (ad 2 k)) (congrArg (fun q => some (va_rf q)) (if_neg hlf)) d_KG_stepOf_167 ?_
              refine lv_aload hx hb d_KG_stepOf_170 (lv_at hl 0 rfl) ?_
              refine zgetN hC hd (e_key hqn) rfl i_Key 4 (by decide) z_120 (Or.inl rfl) (v := .long (xl Z 1 q)) rfl d_KG_stepOf_172 ?_
              refine zb_v hd (zrunO (owner := "KeyGraph$Function") (n := 1) (rest := []) hC hd (e_f2 (hX.fn hkn) hk) rfl (c_Choice_take l G ad ow (sn (sc Z 5 (xn Z 8 k) (xn Z 5 k) j) 5 k ((xn Z 5 k) + 1)) k (hX.fn hkn) hk (xl Z 1 q) ((hwp c25).2.2 hk)) q_500 q_502 q_501 q_503 q_504 q_15 q_505 q_514 rfl rfl rfl (by decide +kernel) ⟨by decide, by decide⟩ rfl hl.1 (Nat.le_of_ble_eq_true rfl) d_KG_stepOf_175 ⟨by decide, by decide⟩) (fun H locs hd => ?_)
              refine lv_bipush (v := 6) hx hb d_KG_stepOf_178 (by decide) ?_
              exact zfi hC hd hr hlk d_KG_stepOf_180 (by unfold x_stepOf x_step1 x_work; rw [hne1, ejc]; unfold x_workN; rw [hq1]; (repeat (first | (rw [if_pos]; rotate_left; first | assumption | decide) | (rw [if_neg]; rotate_left; first | assumption | decide))) <;> (try rfl)) (by unfold x_stepOf x_step1 x_work; rw [hne1, ejc]; unfold x_workN; rw [hq1]; (repeat (first | (rw [if_pos]; rotate_left; first | assumption | decide) | (rw [if_neg]; rotate_left; first | assumption | decide))) <;> (try rfl))
            · refine lv_aload_n hx hb d_KG_stepOf_158 rfl (lv_at hl 4 rfl) ?_
              refine lv_aload_n hx hb d_KG_stepOf_159 rfl (lv_at hl 3 rfl) ?_
              refine lv_iconst (v := 3) hx hb d_KG_stepOf_160 (by decide) ?_
              refine lv_lconst (v := 0) hx hb d_KG_stepOf_161 (by decide) ?_
              refine zb_i (r := 2) hd (zrunV (n := 3) (rest := []) hC hd (e_kg hX.kg) rfl (c_KG_ends l G ad ow (sn (sc Z 5 (xn Z 8 k) (xn Z 5 k) j) 5 k ((xn Z 5 k) + 1)) hX u k hu hkn (show 1 ≤ xn Z 9 u by omega) h40 hne 3 0) q_465 q_467 qp_15 q_1 q_468 rfl rfl rfl (by decide +kernel) ⟨by decide, by decide⟩ rfl hl.1 (Nat.le_of_ble_eq_true rfl) d_KG_stepOf_162 ⟨by decide, by decide⟩) (fun H locs hd => ?_)
              exact zfi hC hd hr hlk d_KG_stepOf_165 (by unfold x_stepOf x_step1 x_work; rw [hne1, ejc]; unfold x_workN; rw [hq1]; (repeat (first | (rw [if_pos]; rotate_left; first | assumption | decide) | (rw [if_neg]; rotate_left; first | assumption | decide))) <;> (try rfl)) (by unfold x_stepOf x_step1 x_work; rw [hne1, ejc]; unfold x_workN; rw [hq1]; (repeat (first | (rw [if_pos]; rotate_left; first | assumption | decide) | (rw [if_neg]; rotate_left; first | assumption | decide))) <;> (try rfl))
          · refine lv_aload_n hx hb d_KG_stepOf_120 rfl (lv_at hl 4 rfl) ?_
            refine lv_iload_n hx hb d_KG_stepOf_121 rfl (lv_at hl 5 rfl) ?_
            refine lv_aload hx hb d_KG_stepOf_122 (lv_at hl 0 rfl) ?_
            refine zb_i (r := ((x_goesDown Z u q).2)) hd (zrunV (n := 2) (rest := []) hC hd (e_kg hX.kg) rfl (c_KG_goesDown l G ad ow Z hX u q hu hqn (hdo q hqn c117).1 (hdo q hqn c117).2) q_461 q_463 qp_14 q_1 q_464 rfl rfl rfl (by decide +kernel) ⟨by decide, by decide⟩ rfl hl.1 (Nat.le_of_ble_eq_true rfl) d_KG_stepOf_124 ⟨by decide, by decide⟩) (fun H locs hd => ?_)
            exact zfi hC hd hr hlk d_KG_stepOf_127 (by unfold x_stepOf x_step1 x_work; rw [hne1, ejc]; unfold x_workN; rw [hq1]; (repeat (first | (rw [if_pos]; rotate_left; first | assumption | decide) | (rw [if_neg]; rotate_left; first | assumption | decide))) <;> (try rfl)) (by unfold x_stepOf x_step1 x_work; rw [hne1, ejc]; unfold x_workN; rw [hq1]; (repeat (first | (rw [if_pos]; rotate_left; first | assumption | decide) | (rw [if_neg]; rotate_left; first | assumption | decide))) <;> (try rfl))
        · refine lv_aload_n hx hb d_KG_stepOf_83 rfl (lv_at hl 3 rfl) ?_
          refine lv_aload_n hx hb d_KG_stepOf_84 rfl (lv_at hl 2 rfl) ?_
          refine lv_iconst (v := 1) hx hb d_KG_stepOf_85 (by decide) ?_
          refine lv_aload_n hx hb d_KG_stepOf_86 rfl (lv_at hl 1 rfl) ?_
          refine zgetN hC hd (e_key hkn) rfl i_Key 1 (by decide) z_116 (Or.inl rfl) (v := .ref (ad 2 k)) (congrArg (fun q => some (va_rf q)) (if_neg hlf)) d_KG_stepOf_87 ?_
          refine zb_l (r := (x_result Z k)) hd (zrunU (owner := "KeyGraph$Function") (n := 0) (rest := [.int 1, .ref (ad 6 u), .ref (ad 0 0)]) hC hd (e_f2 (hX.fn hkn) hk) rfl (c_Fun_result2 l G ad ow Z k (hX.fn hkn) hk) q_489 q_491 q_492 q_490 q_12 q_499 rfl rfl rfl rfl (by decide +kernel) ⟨by decide, by decide⟩ rfl hl.1 (Nat.le_of_ble_eq_true rfl) d_KG_stepOf_90 ⟨by decide, by decide⟩) (fun H locs hd => ?_)
          refine zb_i (r := 2) hd (zrunV (n := 3) (rest := []) hC hd (e_kg hX.kg) rfl (c_KG_ends l G ad ow Z hX u k hu hkn (show 1 ≤ xn Z 9 u by omega) h40 hne 1 (x_result Z k)) q_465 q_467 qp_15 q_1 q_468 rfl rfl rfl (by decide +kernel) ⟨by decide, by decide⟩ rfl hl.1 (Nat.le_of_ble_eq_true rfl) d_KG_stepOf_93 ⟨by decide, by decide⟩) (fun H locs hd => ?_)
          exact zfi hC hd hr hlk d_KG_stepOf_96 (by unfold x_stepOf x_step1 x_work; rw [hne1]; (repeat (first | (rw [if_pos]; rotate_left; first | assumption | decide) | (rw [if_neg]; rotate_left; first | assumption | decide))) <;> (try rfl)) (by unfold x_stepOf x_step1 x_work; rw [hne1]; (repeat (first | (rw [if_pos]; rotate_left; first | assumption | decide) | (rw [if_neg]; rotate_left; first | assumption | decide))) <;> (try rfl))
      · refine lv_aload_n hx hb d_KG_stepOf_61 rfl (lv_at hl 2 rfl) ?_
        refine lv_aload_n hx hb d_KG_stepOf_62 rfl (lv_at hl 1 rfl) ?_
        refine lv_iconst (v := 2) hx hb d_KG_stepOf_63 (by decide) ?_
        refine lv_lconst (v := 0) hx hb d_KG_stepOf_64 (by decide) ?_
        refine zb_i (r := 2) hd (zrunV (n := 3) (rest := []) hC hd (e_kg hX.kg) rfl (c_KG_ends l G ad ow Z hX u k hu hkn (show 1 ≤ xn Z 9 u by omega) h40 hne 2 0) q_465 q_467 qp_15 q_1 q_468 rfl rfl rfl (by decide +kernel) ⟨by decide, by decide⟩ rfl hl.1 (Nat.le_of_ble_eq_true rfl) d_KG_stepOf_65 ⟨by decide, by decide⟩) (fun H locs hd => ?_)
        exact zfi hC hd hr hlk d_KG_stepOf_68 (by unfold x_stepOf x_step1 x_work; rw [hne1]; (repeat (first | (rw [if_pos]; rotate_left; first | assumption | decide) | (rw [if_neg]; rotate_left; first | assumption | decide))) <;> (try rfl)) (by unfold x_stepOf x_step1 x_work; rw [hne1]; (repeat (first | (rw [if_pos]; rotate_left; first | assumption | decide) | (rw [if_neg]; rotate_left; first | assumption | decide))) <;> (try rfl))
    · refine lv_aload_n hx hb d_KG_stepOf_43 rfl (lv_at hl 2 rfl) ?_
      refine lv_aload_n hx hb d_KG_stepOf_44 rfl (lv_at hl 1 rfl) ?_
      refine lv_iconst (v := 2) hx hb d_KG_stepOf_45 (by decide) ?_
      refine lv_lconst (v := 0) hx hb d_KG_stepOf_46 (by decide) ?_
      refine zb_i (r := 2) hd (zrunV (n := 3) (rest := []) hC hd (e_kg hX.kg) rfl (c_KG_ends l G ad ow Z hX u k hu hkn (show 1 ≤ xn Z 9 u by omega) h40 hne 2 0) q_465 q_467 qp_15 q_1 q_468 rfl rfl rfl (by decide +kernel) ⟨by decide, by decide⟩ rfl hl.1 (Nat.le_of_ble_eq_true rfl) d_KG_stepOf_47 ⟨by decide, by decide⟩) (fun H locs hd => ?_)
      exact zfi hC hd hr hlk d_KG_stepOf_50 (by unfold x_stepOf x_step1 x_work; rw [hne1]; (repeat (first | (rw [if_pos]; rotate_left; first | assumption | decide) | (rw [if_neg]; rotate_left; first | assumption | decide))) <;> (try rfl)) (by unfold x_stepOf x_step1 x_work; rw [hne1]; (repeat (first | (rw [if_pos]; rotate_left; first | assumption | decide) | (rw [if_neg]; rotate_left; first | assumption | decide))) <;> (try rfl))
  · refine lv_aload_n hx hb d_KG_stepOf_28 rfl (lv_at hl 2 rfl) ?_
    refine lv_iload_n hx hb d_KG_stepOf_29 rfl (lv_at hl 3 rfl) ?_
    refine lv_aload_n hx hb d_KG_stepOf_30 rfl (lv_at hl 1 rfl) ?_
    refine lv_aload_n hx hb d_KG_stepOf_31 rfl (lv_at hl 0 rfl) ?_
    refine zb_i (r := ((x_check Z u k).2)) hd (zrunV (n := 3) (rest := []) hC hd (e_kg hX.kg) rfl (c_KG_check l G ad ow Z hX u k hu hkn (by omega) h40 hne hdo (hcp c25) hab) q_453 q_455 qp_12 q_1 q_456 rfl rfl rfl (by decide +kernel) ⟨by decide, by decide⟩ rfl hl.1 (Nat.le_of_ble_eq_true rfl) d_KG_stepOf_32 ⟨by decide, by decide⟩) (fun H locs hd => ?_)
    exact zfi hC hd hr hlk d_KG_stepOf_35 (by unfold x_stepOf x_step1 x_work; rw [hne1]; (repeat (first | (rw [if_pos]; rotate_left; first | assumption | decide) | (rw [if_neg]; rotate_left; first | assumption | decide))) <;> (try rfl)) (by unfold x_stepOf x_step1 x_work; rw [hne1]; (repeat (first | (rw [if_pos]; rotate_left; first | assumption | decide) | (rw [if_neg]; rotate_left; first | assumption | decide))) <;> (try rfl))
set_option maxHeartbeats 4000000 in
theorem c_KG_stepOf3 (l : Launch) (G : Gt) (ad : Nat → Nat → Nat) (ow : Nat → Nat × Nat) (Z : Zt) (hX : XS Z) (u k : Nat) (hu : u < 5) (hkn : k < xn Z 0 1) (h0 : ¬ xn Z 9 u = 0) (h40 : xn Z 9 u ≤ 40) (hne : xc Z 7 u (xn Z 9 u - 1) = k + 1) (hk : xn Z 1 k = 3) (hdo : DownOk Z u) (hcp : ¬ xi Z 9 k = 0 → CheckPre Z k) (hwp : xi Z 9 k = 0 → WorkPre Z k) (hab : xn Z 6 k ≤ 2147483647 ∧ xn Z 4 k ≤ 2147483647) : Met l y_KG_stepOf w_KG_stepOf ({ frames := 5, cells := 0, slots := 0, locals := 111 }) (zPc G ad ow Z [.ref (ad 0 0), .int (nI u)]) (Qd G ad ow ((x_stepOf Z u).1) (some (.int (x_stepOf Z u).2))) 0 0 (zA G) := by
  refine zopen (cc := b_KG_stepOf) (maxL := 6) (ret := (some FieldType.int)) (by decide) rfl (Nat.le_of_ble_eq_true rfl) ?_
  intro p e s m below meth c ls hC hr hlk hnm hd hl
  have hC : Cx G p c m s _ "KeyGraph" b_KG_stepOf 6 := hC
  have hl : lv_has ls 6 [(0, .ref (ad 0 0)), (1, .int (nI u))] := hl
  have hx := hC.1
  have hb := hC.2.1
  have hlf : ¬ xn Z 1 k = 6 := by omega
  have hk40 := hX.k40
  have hne1 : xc Z 7 u (xn Z 9 u - 1) - 1 = k := by omega
  refine lv_aload_n hx hb d_KG_stepOf_0 rfl (lv_at hl 0 rfl) ?_
  refine zget hC hd (e_kg hX.kg) rfl i_KG 1 (by decide) q_81 (Or.inl rfl) (v := .ref (ad 8 0)) rfl d_KG_stepOf_1 ?_
  refine lv_iload_n hx hb d_KG_stepOf_4 rfl (lv_at hl 1 rfl) ?_
  refine zaaP (k := u) hC hd (e_piles hX.ps) (by omega) (by decide) rfl d_KG_stepOf_5 ?_
  refine lv_astore_n (lv' := [(2, .ref (ad 6 u)), (0, .ref (ad 0 0)), (1, .int (nI u))]) hx hb d_KG_stepOf_6 rfl hl (by decide) rfl (fun ls hl => ?_)
  refine lv_aload_n hx hb d_KG_stepOf_7 rfl (lv_at hl 0 rfl) ?_
  refine zgetN hC hd (e_pile (hX.pl hu)) rfl i_Pile 1 (by decide) z_74 (Or.inl rfl) (v := .int (nI (xn Z 9 u))) rfl d_KG_stepOf_8 ?_
  refine zi_ne (x := xn Z 9 u) (tgt := 16) (by omega) hx hb d_KG_stepOf_11 (by decide) (fun c11 => ?_) (fun c11 => absurd c11 (by omega))
  refine lv_aload_n hx hb d_KG_stepOf_16 rfl (lv_at hl 0 rfl) ?_
  refine zb_a (r := (ad 1 k)) hd (zrunV (n := 0) (rest := []) hC hd (e_pile (hX.pl hu)) rfl (c_Pile_top l G ad ow Z hX u hu (by omega) (by omega) k hne) q_394 q_395 q_396 q_5 q_397 rfl rfl rfl (by decide +kernel) ⟨by decide, by decide⟩ rfl hl.1 (Nat.le_of_ble_eq_true rfl) d_KG_stepOf_17 ⟨by decide, by decide⟩) (fun H locs hd => ?_)
  refine lv_astore_n (lv' := [(3, .ref (ad 1 k)), (2, .ref (ad 6 u)), (0, .ref (ad 0 0)), (1, .int (nI u))]) hx hb d_KG_stepOf_20 rfl hl (by decide) rfl (fun ls hl => ?_)
  refine lv_aload_n hx hb d_KG_stepOf_21 rfl (lv_at hl 0 rfl) ?_
  refine zgetN hC hd (e_key hkn) rfl i_Key 17 (by decide) z_137 (Or.inl rfl) (v := .int (xi Z 9 k)) rfl d_KG_stepOf_22 ?_
  refine lv_if_eq (tgt := 36) hx hb d_KG_stepOf_25 (by decide) (fun c25 => ?_) (fun c25 => ?_)
  · refine lv_aload_n hx hb d_KG_stepOf_36 rfl (lv_at hl 0 rfl) ?_
    refine zgetN hC hd (e_key hkn) rfl i_Key 10 (by decide) z_127 (Or.inl rfl) (v := .int (xi Z 7 k)) rfl d_KG_stepOf_37 ?_
    refine lv_if_eq (tgt := 51) hx hb d_KG_stepOf_40 (by decide) (fun c40 => ?_) (fun c40 => ?_)
    · refine lv_aload_n hx hb d_KG_stepOf_51 rfl (lv_at hl 0 rfl) ?_
      refine zgetN hC hd (e_key hkn) rfl i_Key 1 (by decide) z_116 (Or.inl rfl) (v := .ref (ad 2 k)) (congrArg (fun q => some (va_rf q)) (if_neg hlf)) d_KG_stepOf_52 ?_
      refine zb_i (r := (xi Z 12 k)) hd (zrunU (owner := "KeyGraph$Function") (n := 0) (rest := []) hC hd (e_f3 (hX.fn hkn) hk) rfl (c_Fun_fails3 l G ad ow Z k (hX.fn hkn) hk (hwp c25).1) q_469 q_471 q_475 q_470 q_12 q_477 rfl rfl rfl rfl (by decide +kernel) ⟨by decide, by decide⟩ rfl hl.1 (Nat.le_of_ble_eq_true rfl) d_KG_stepOf_55 ⟨by decide, by decide⟩) (fun H locs hd => ?_)
      refine lv_if_eq (tgt := 69) hx hb d_KG_stepOf_58 (by decide) (fun c58 => ?_) (fun c58 => ?_)
      · refine lv_aload_n hx hb d_KG_stepOf_69 rfl (lv_at hl 0 rfl) ?_
        refine zgetN hC hd (e_key hkn) rfl i_Key 1 (by decide) z_116 (Or.inl rfl) (v := .ref (ad 2 k)) (congrArg (fun q => some (va_rf q)) (if_neg hlf)) d_KG_stepOf_70 ?_
        refine zb_i (r := (x_next Z k)) hd (zrunU (owner := "KeyGraph$Function") (n := 0) (rest := []) hC hd (e_f3 (hX.fn hkn) hk) rfl (c_Fun_next3 l G ad ow Z k (hX.fn hkn) hk) q_478 q_480 q_486 q_479 q_12 q_488 rfl rfl rfl rfl (by decide +kernel) ⟨by decide, by decide⟩ rfl hl.1 (Nat.le_of_ble_eq_true rfl) d_KG_stepOf_73 ⟨by decide, by decide⟩) (fun H locs hd => ?_)
        refine lv_istore (lv' := [(4, .int (x_next Z k)), (3, .ref (ad 1 k)), (2, .ref (ad 6 u)), (0, .ref (ad 0 0)), (1, .int (nI u))]) hx hb d_KG_stepOf_76 hl (by decide) rfl (fun ls hl => ?_)
        refine lv_iload hx hb d_KG_stepOf_78 (lv_at hl 0 rfl) ?_
        refine lv_if_ge (tgt := 97) hx hb d_KG_stepOf_80 (by decide) (fun c80 => ?_) (fun c80 => ?_)
        · obtain ⟨hj, hak⟩ := (hwp c25).2.1 c80
          obtain ⟨j, hj9, ej⟩ := nI_of (Int32.not_lt.mpr c80)
          have ejc : (x_next Z k).toNatClampNeg = j := by rw [ej, nI_clamp hj9]
          rw [ejc] at hj
          rw [ej] at hl
          have hrow := (hX.2.2.2.1 k hkn).2 _ hj
          obtain ⟨q, hq⟩ : ∃ q, xc Z 4 (k + 2) j = q + 1 := ⟨xc Z 4 (k + 2) j - 1, by omega⟩
          have hq1 : xc Z 4 (k + 2) j - 1 = q := by omega
          have hqn : q < xn Z 0 1 := by omega
          refine lv_aload_n hx hb d_KG_stepOf_97 rfl (lv_at hl 1 rfl) ?_
          refine zgetN hC hd (e_key hkn) rfl i_Key 2 (by decide) z_118 (Or.inl rfl) (v := .ref (ad 3 (k + 2))) rfl d_KG_stepOf_98 ?_
          refine lv_iload hx hb d_KG_stepOf_101 (lv_at hl 0 rfl) ?_
          refine zb_a (r := (ad 1 q)) hd (zrunV (n := 1) (rest := []) hC hd (e_list (hX.l hkn)) rfl (c_get l G ad ow Z hX (k + 2) j q (hX.l hkn) hj hq) q_352 q_353 q_354 q_4 q_355 rfl rfl rfl (by decide +kernel) ⟨by decide, by decide⟩ rfl hl.1 (Nat.le_of_ble_eq_true rfl) d_KG_stepOf_103 ⟨by decide, by decide⟩) (fun H locs hd => ?_)
          refine zcast hC hd (e_key hqn) q_105 d_KG_stepOf_106 ?_
          refine lv_astore (lv' := [(5, .ref (ad 1 q)), (4, .int (nI j)), (3, .ref (ad 1 k)), (2, .ref (ad 6 u)), (0, .ref (ad 0 0)), (1, .int (nI u))]) hx hb d_KG_stepOf_109 hl (by decide) rfl (fun ls hl => ?_)
          refine lv_aload_n hx hb d_KG_stepOf_111 rfl (lv_at hl 4 rfl) ?_
          refine lv_aload hx hb d_KG_stepOf_112 (lv_at hl 0 rfl) ?_
          refine zb_i (r := (x_isSure Z q)) hd (zrunV (n := 1) (rest := []) hC hd (e_kg hX.kg) rfl (c_KG_isSure l G ad ow Z hX q (x_isSure Z q) hqn rfl) q_421 q_423 qp_9 q_1 q_424 rfl rfl rfl (by decide +kernel) ⟨by decide, by decide⟩ rfl hl.1 (Nat.le_of_ble_eq_true rfl) d_KG_stepOf_114 ⟨by decide, by decide⟩) (fun H locs hd => ?_)
          refine lv_if_ne (tgt := 128) hx hb d_KG_stepOf_117 (by decide) (fun c117 => ?_) (fun c117 => ?_)
          · refine lv_aload_n hx hb d_KG_stepOf_128 rfl (lv_at hl 2 rfl) ?_
            refine zgetN hC hd (e_key hkn) rfl i_Key 12 (by decide) z_131 (Or.inl rfl) (v := .ref (ad 5 (xn Z 8 k))) rfl d_KG_stepOf_129 ?_
            refine lv_aload_n hx hb d_KG_stepOf_132 rfl (lv_at hl 2 rfl) ?_
            refine zgetN hC hd (e_key hkn) rfl i_Key 14 (by decide) z_133 (Or.inl rfl) (v := .int (nI (xn Z 5 k))) rfl d_KG_stepOf_133 ?_
            refine lv_iload hx hb d_KG_stepOf_136 (lv_at hl 1 rfl) ?_
            refine ziaS (k := xn Z 5 k) (Z' := (sc Z 5 (xn Z 8 k) (xn Z 5 k) j)) hC hd (e_arr (hX.ar (hX.2.2.2.2.2 k hkn).2)) (by omega) (by decide) (u_arr (hX.ar (hX.2.2.2.2.2 k hkn).2)) d_KG_stepOf_138 (fun H locs hd => ?_)
            refine lv_aload_n hx hb d_KG_stepOf_139 rfl (lv_at hl 2 rfl) ?_
            refine lv_dup hx hb d_KG_stepOf_140 rfl ?_
            refine zgetN hC hd (e_key hkn) rfl i_Key 14 (by decide) z_133 (Or.inl rfl) (v := .int (nI (xn Z 5 k))) rfl d_KG_stepOf_141 ?_
            refine lv_iconst (v := 1) hx hb d_KG_stepOf_144 (by decide) ?_
            refine zaddN (x := xn Z 5 k) (y := 1) hx hb d_KG_stepOf_145 ?_
            refine zputN (Z' := (sn (sc Z 5 (xn Z 8 k) (xn Z 5 k) j) 5 k ((xn Z 5 k) + 1))) (v := .int (nI ((xn Z 5 k) + 1))) hC hd (e_key hkn) rfl i_Key t_Key t_Key_ok n_Key 14 (by decide) z_133 rfl rfl rfl rfl (Nat.le_of_ble_eq_true rfl) (u_askingC hkn) d_KG_stepOf_146 (fun H locs hd => ?_)
            refine lv_aload hx hb d_KG_stepOf_149 (lv_at hl 0 rfl) ?_
            refine zgetN hC hd (e_key hqn) rfl i_Key 3 (by decide) z_119 (Or.inl rfl) (v := .int (xi Z 1 q)) rfl d_KG_stepOf_151 ?_
            refine lv_iconst (v := 1) hx hb d_KG_stepOf_154 (by decide) ?_
            refine lv_icmp_eq (tgt := 166) hx hb d_KG_stepOf_155 (by decide) (fun c155 => ?_) (fun c155 => ?_)
            · refine lv_aload_n hx hb d_KG_stepOf_166 rfl (lv_at hl 2 rfl) ?_
              refine zgetN hC hd (e_key hkn) rfl i_Key 1 (by decide) z_116 (Or.inl rfl) (v := .ref (ad 2 k)) (congrArg (fun q => some (va_rf q)) (if_neg hlf)) d_KG_stepOf_167 ?_
              refine lv_aload hx hb d_KG_stepOf_170 (lv_at hl 0 rfl) ?_
              refine zgetN hC hd (e_key hqn) rfl i_Key 4 (by decide) z_120 (Or.inl rfl) (v := .long (xl Z 1 q)) rfl d_KG_stepOf_172 ?_
              refine zb_v hd (zrunU (owner := "KeyGraph$Function") (n := 1) (rest := []) hC hd (e_f3 (hX.fn hkn) hk) rfl (c_Fun_take3 l G ad ow (sn (sc Z 5 (xn Z 8 k) (xn Z 5 k) j) 5 k ((xn Z 5 k) + 1)) k (hX.fn hkn) hk (xl Z 1 q)) q_500 q_502 q_512 q_501 q_12 q_514 rfl rfl rfl rfl (by decide +kernel) ⟨by decide, by decide⟩ rfl hl.1 (Nat.le_of_ble_eq_true rfl) d_KG_stepOf_175 ⟨by decide, by decide⟩) (fun H locs hd => ?_)
              refine lv_bipush (v := 6) hx hb d_KG_stepOf_178 (by decide) ?_
              exact zfi hC hd hr hlk d_KG_stepOf_180 (by unfold x_stepOf x_step1 x_work; rw [hne1, ejc]; unfold x_workN; rw [hq1]; (repeat (first | (rw [if_pos]; rotate_left; first | assumption | decide) | (rw [if_neg]; rotate_left; first | assumption | decide))) <;> (try rfl)) (by unfold x_stepOf x_step1 x_work; rw [hne1, ejc]; unfold x_workN; rw [hq1]; (repeat (first | (rw [if_pos]; rotate_left; first | assumption | decide) | (rw [if_neg]; rotate_left; first | assumption | decide))) <;> (try rfl))
            · refine lv_aload_n hx hb d_KG_stepOf_158 rfl (lv_at hl 4 rfl) ?_
              refine lv_aload_n hx hb d_KG_stepOf_159 rfl (lv_at hl 3 rfl) ?_
              refine lv_iconst (v := 3) hx hb d_KG_stepOf_160 (by decide) ?_
              refine lv_lconst (v := 0) hx hb d_KG_stepOf_161 (by decide) ?_
              refine zb_i (r := 2) hd (zrunV (n := 3) (rest := []) hC hd (e_kg hX.kg) rfl (c_KG_ends l G ad ow (sn (sc Z 5 (xn Z 8 k) (xn Z 5 k) j) 5 k ((xn Z 5 k) + 1)) hX u k hu hkn (show 1 ≤ xn Z 9 u by omega) h40 hne 3 0) q_465 q_467 qp_15 q_1 q_468 rfl rfl rfl (by decide +kernel) ⟨by decide, by decide⟩ rfl hl.1 (Nat.le_of_ble_eq_true rfl) d_KG_stepOf_162 ⟨by decide, by decide⟩) (fun H locs hd => ?_)
              exact zfi hC hd hr hlk d_KG_stepOf_165 (by unfold x_stepOf x_step1 x_work; rw [hne1, ejc]; unfold x_workN; rw [hq1]; (repeat (first | (rw [if_pos]; rotate_left; first | assumption | decide) | (rw [if_neg]; rotate_left; first | assumption | decide))) <;> (try rfl)) (by unfold x_stepOf x_step1 x_work; rw [hne1, ejc]; unfold x_workN; rw [hq1]; (repeat (first | (rw [if_pos]; rotate_left; first | assumption | decide) | (rw [if_neg]; rotate_left; first | assumption | decide))) <;> (try rfl))
          · refine lv_aload_n hx hb d_KG_stepOf_120 rfl (lv_at hl 4 rfl) ?_
            refine lv_iload_n hx hb d_KG_stepOf_121 rfl (lv_at hl 5 rfl) ?_
            refine lv_aload hx hb d_KG_stepOf_122 (lv_at hl 0 rfl) ?_
            refine zb_i (r := ((x_goesDown Z u q).2)) hd (zrunV (n := 2) (rest := []) hC hd (e_kg hX.kg) rfl (c_KG_goesDown l G ad ow Z hX u q hu hqn (hdo q hqn c117).1 (hdo q hqn c117).2) q_461 q_463 qp_14 q_1 q_464 rfl rfl rfl (by decide +kernel) ⟨by decide, by decide⟩ rfl hl.1 (Nat.le_of_ble_eq_true rfl) d_KG_stepOf_124 ⟨by decide, by decide⟩) (fun H locs hd => ?_)
            exact zfi hC hd hr hlk d_KG_stepOf_127 (by unfold x_stepOf x_step1 x_work; rw [hne1, ejc]; unfold x_workN; rw [hq1]; (repeat (first | (rw [if_pos]; rotate_left; first | assumption | decide) | (rw [if_neg]; rotate_left; first | assumption | decide))) <;> (try rfl)) (by unfold x_stepOf x_step1 x_work; rw [hne1, ejc]; unfold x_workN; rw [hq1]; (repeat (first | (rw [if_pos]; rotate_left; first | assumption | decide) | (rw [if_neg]; rotate_left; first | assumption | decide))) <;> (try rfl))
        · refine lv_aload_n hx hb d_KG_stepOf_83 rfl (lv_at hl 3 rfl) ?_
          refine lv_aload_n hx hb d_KG_stepOf_84 rfl (lv_at hl 2 rfl) ?_
          refine lv_iconst (v := 1) hx hb d_KG_stepOf_85 (by decide) ?_
          refine lv_aload_n hx hb d_KG_stepOf_86 rfl (lv_at hl 1 rfl) ?_
          refine zgetN hC hd (e_key hkn) rfl i_Key 1 (by decide) z_116 (Or.inl rfl) (v := .ref (ad 2 k)) (congrArg (fun q => some (va_rf q)) (if_neg hlf)) d_KG_stepOf_87 ?_
          refine zb_l (r := (x_result Z k)) hd (zrunU (owner := "KeyGraph$Function") (n := 0) (rest := [.int 1, .ref (ad 6 u), .ref (ad 0 0)]) hC hd (e_f3 (hX.fn hkn) hk) rfl (c_Fun_result3 l G ad ow Z k (hX.fn hkn) hk) q_489 q_491 q_495 q_490 q_12 q_499 rfl rfl rfl rfl (by decide +kernel) ⟨by decide, by decide⟩ rfl hl.1 (Nat.le_of_ble_eq_true rfl) d_KG_stepOf_90 ⟨by decide, by decide⟩) (fun H locs hd => ?_)
          refine zb_i (r := 2) hd (zrunV (n := 3) (rest := []) hC hd (e_kg hX.kg) rfl (c_KG_ends l G ad ow Z hX u k hu hkn (show 1 ≤ xn Z 9 u by omega) h40 hne 1 (x_result Z k)) q_465 q_467 qp_15 q_1 q_468 rfl rfl rfl (by decide +kernel) ⟨by decide, by decide⟩ rfl hl.1 (Nat.le_of_ble_eq_true rfl) d_KG_stepOf_93 ⟨by decide, by decide⟩) (fun H locs hd => ?_)
          exact zfi hC hd hr hlk d_KG_stepOf_96 (by unfold x_stepOf x_step1 x_work; rw [hne1]; (repeat (first | (rw [if_pos]; rotate_left; first | assumption | decide) | (rw [if_neg]; rotate_left; first | assumption | decide))) <;> (try rfl)) (by unfold x_stepOf x_step1 x_work; rw [hne1]; (repeat (first | (rw [if_pos]; rotate_left; first | assumption | decide) | (rw [if_neg]; rotate_left; first | assumption | decide))) <;> (try rfl))
      · refine lv_aload_n hx hb d_KG_stepOf_61 rfl (lv_at hl 2 rfl) ?_
        refine lv_aload_n hx hb d_KG_stepOf_62 rfl (lv_at hl 1 rfl) ?_
        refine lv_iconst (v := 2) hx hb d_KG_stepOf_63 (by decide) ?_
        refine lv_lconst (v := 0) hx hb d_KG_stepOf_64 (by decide) ?_
        refine zb_i (r := 2) hd (zrunV (n := 3) (rest := []) hC hd (e_kg hX.kg) rfl (c_KG_ends l G ad ow Z hX u k hu hkn (show 1 ≤ xn Z 9 u by omega) h40 hne 2 0) q_465 q_467 qp_15 q_1 q_468 rfl rfl rfl (by decide +kernel) ⟨by decide, by decide⟩ rfl hl.1 (Nat.le_of_ble_eq_true rfl) d_KG_stepOf_65 ⟨by decide, by decide⟩) (fun H locs hd => ?_)
        exact zfi hC hd hr hlk d_KG_stepOf_68 (by unfold x_stepOf x_step1 x_work; rw [hne1]; (repeat (first | (rw [if_pos]; rotate_left; first | assumption | decide) | (rw [if_neg]; rotate_left; first | assumption | decide))) <;> (try rfl)) (by unfold x_stepOf x_step1 x_work; rw [hne1]; (repeat (first | (rw [if_pos]; rotate_left; first | assumption | decide) | (rw [if_neg]; rotate_left; first | assumption | decide))) <;> (try rfl))
    · refine lv_aload_n hx hb d_KG_stepOf_43 rfl (lv_at hl 2 rfl) ?_
      refine lv_aload_n hx hb d_KG_stepOf_44 rfl (lv_at hl 1 rfl) ?_
      refine lv_iconst (v := 2) hx hb d_KG_stepOf_45 (by decide) ?_
      refine lv_lconst (v := 0) hx hb d_KG_stepOf_46 (by decide) ?_
      refine zb_i (r := 2) hd (zrunV (n := 3) (rest := []) hC hd (e_kg hX.kg) rfl (c_KG_ends l G ad ow Z hX u k hu hkn (show 1 ≤ xn Z 9 u by omega) h40 hne 2 0) q_465 q_467 qp_15 q_1 q_468 rfl rfl rfl (by decide +kernel) ⟨by decide, by decide⟩ rfl hl.1 (Nat.le_of_ble_eq_true rfl) d_KG_stepOf_47 ⟨by decide, by decide⟩) (fun H locs hd => ?_)
      exact zfi hC hd hr hlk d_KG_stepOf_50 (by unfold x_stepOf x_step1 x_work; rw [hne1]; (repeat (first | (rw [if_pos]; rotate_left; first | assumption | decide) | (rw [if_neg]; rotate_left; first | assumption | decide))) <;> (try rfl)) (by unfold x_stepOf x_step1 x_work; rw [hne1]; (repeat (first | (rw [if_pos]; rotate_left; first | assumption | decide) | (rw [if_neg]; rotate_left; first | assumption | decide))) <;> (try rfl))
  · refine lv_aload_n hx hb d_KG_stepOf_28 rfl (lv_at hl 2 rfl) ?_
    refine lv_iload_n hx hb d_KG_stepOf_29 rfl (lv_at hl 3 rfl) ?_
    refine lv_aload_n hx hb d_KG_stepOf_30 rfl (lv_at hl 1 rfl) ?_
    refine lv_aload_n hx hb d_KG_stepOf_31 rfl (lv_at hl 0 rfl) ?_
    refine zb_i (r := ((x_check Z u k).2)) hd (zrunV (n := 3) (rest := []) hC hd (e_kg hX.kg) rfl (c_KG_check l G ad ow Z hX u k hu hkn (by omega) h40 hne hdo (hcp c25) hab) q_453 q_455 qp_12 q_1 q_456 rfl rfl rfl (by decide +kernel) ⟨by decide, by decide⟩ rfl hl.1 (Nat.le_of_ble_eq_true rfl) d_KG_stepOf_32 ⟨by decide, by decide⟩) (fun H locs hd => ?_)
    exact zfi hC hd hr hlk d_KG_stepOf_35 (by unfold x_stepOf x_step1 x_work; rw [hne1]; (repeat (first | (rw [if_pos]; rotate_left; first | assumption | decide) | (rw [if_neg]; rotate_left; first | assumption | decide))) <;> (try rfl)) (by unfold x_stepOf x_step1 x_work; rw [hne1]; (repeat (first | (rw [if_pos]; rotate_left; first | assumption | decide) | (rw [if_neg]; rotate_left; first | assumption | decide))) <;> (try rfl))
set_option maxHeartbeats 4000000 in
theorem c_KG_stepOf4 (l : Launch) (G : Gt) (ad : Nat → Nat → Nat) (ow : Nat → Nat × Nat) (Z : Zt) (hX : XS Z) (u k : Nat) (hu : u < 5) (hkn : k < xn Z 0 1) (h0 : ¬ xn Z 9 u = 0) (h40 : xn Z 9 u ≤ 40) (hne : xc Z 7 u (xn Z 9 u - 1) = k + 1) (hk : xn Z 1 k = 4) (hdo : DownOk Z u) (hcp : ¬ xi Z 9 k = 0 → CheckPre Z k) (hwp : xi Z 9 k = 0 → WorkPre Z k) (hab : xn Z 6 k ≤ 2147483647 ∧ xn Z 4 k ≤ 2147483647) : Met l y_KG_stepOf w_KG_stepOf ({ frames := 5, cells := 0, slots := 0, locals := 111 }) (zPc G ad ow Z [.ref (ad 0 0), .int (nI u)]) (Qd G ad ow ((x_stepOf Z u).1) (some (.int (x_stepOf Z u).2))) 0 0 (zA G) := by
  refine zopen (cc := b_KG_stepOf) (maxL := 6) (ret := (some FieldType.int)) (by decide) rfl (Nat.le_of_ble_eq_true rfl) ?_
  intro p e s m below meth c ls hC hr hlk hnm hd hl
  have hC : Cx G p c m s _ "KeyGraph" b_KG_stepOf 6 := hC
  have hl : lv_has ls 6 [(0, .ref (ad 0 0)), (1, .int (nI u))] := hl
  have hx := hC.1
  have hb := hC.2.1
  have hlf : ¬ xn Z 1 k = 6 := by omega
  have hk40 := hX.k40
  have hne1 : xc Z 7 u (xn Z 9 u - 1) - 1 = k := by omega
  refine lv_aload_n hx hb d_KG_stepOf_0 rfl (lv_at hl 0 rfl) ?_
  refine zget hC hd (e_kg hX.kg) rfl i_KG 1 (by decide) q_81 (Or.inl rfl) (v := .ref (ad 8 0)) rfl d_KG_stepOf_1 ?_
  refine lv_iload_n hx hb d_KG_stepOf_4 rfl (lv_at hl 1 rfl) ?_
  refine zaaP (k := u) hC hd (e_piles hX.ps) (by omega) (by decide) rfl d_KG_stepOf_5 ?_
  refine lv_astore_n (lv' := [(2, .ref (ad 6 u)), (0, .ref (ad 0 0)), (1, .int (nI u))]) hx hb d_KG_stepOf_6 rfl hl (by decide) rfl (fun ls hl => ?_)
  refine lv_aload_n hx hb d_KG_stepOf_7 rfl (lv_at hl 0 rfl) ?_
  refine zgetN hC hd (e_pile (hX.pl hu)) rfl i_Pile 1 (by decide) z_74 (Or.inl rfl) (v := .int (nI (xn Z 9 u))) rfl d_KG_stepOf_8 ?_
  refine zi_ne (x := xn Z 9 u) (tgt := 16) (by omega) hx hb d_KG_stepOf_11 (by decide) (fun c11 => ?_) (fun c11 => absurd c11 (by omega))
  refine lv_aload_n hx hb d_KG_stepOf_16 rfl (lv_at hl 0 rfl) ?_
  refine zb_a (r := (ad 1 k)) hd (zrunV (n := 0) (rest := []) hC hd (e_pile (hX.pl hu)) rfl (c_Pile_top l G ad ow Z hX u hu (by omega) (by omega) k hne) q_394 q_395 q_396 q_5 q_397 rfl rfl rfl (by decide +kernel) ⟨by decide, by decide⟩ rfl hl.1 (Nat.le_of_ble_eq_true rfl) d_KG_stepOf_17 ⟨by decide, by decide⟩) (fun H locs hd => ?_)
  refine lv_astore_n (lv' := [(3, .ref (ad 1 k)), (2, .ref (ad 6 u)), (0, .ref (ad 0 0)), (1, .int (nI u))]) hx hb d_KG_stepOf_20 rfl hl (by decide) rfl (fun ls hl => ?_)
  refine lv_aload_n hx hb d_KG_stepOf_21 rfl (lv_at hl 0 rfl) ?_
  refine zgetN hC hd (e_key hkn) rfl i_Key 17 (by decide) z_137 (Or.inl rfl) (v := .int (xi Z 9 k)) rfl d_KG_stepOf_22 ?_
  refine lv_if_eq (tgt := 36) hx hb d_KG_stepOf_25 (by decide) (fun c25 => ?_) (fun c25 => ?_)
  · refine lv_aload_n hx hb d_KG_stepOf_36 rfl (lv_at hl 0 rfl) ?_
    refine zgetN hC hd (e_key hkn) rfl i_Key 10 (by decide) z_127 (Or.inl rfl) (v := .int (xi Z 7 k)) rfl d_KG_stepOf_37 ?_
    refine lv_if_eq (tgt := 51) hx hb d_KG_stepOf_40 (by decide) (fun c40 => ?_) (fun c40 => ?_)
    · refine lv_aload_n hx hb d_KG_stepOf_51 rfl (lv_at hl 0 rfl) ?_
      refine zgetN hC hd (e_key hkn) rfl i_Key 1 (by decide) z_116 (Or.inl rfl) (v := .ref (ad 2 k)) (congrArg (fun q => some (va_rf q)) (if_neg hlf)) d_KG_stepOf_52 ?_
      refine zb_i (r := (xi Z 12 k)) hd (zrunU (owner := "KeyGraph$Function") (n := 0) (rest := []) hC hd (e_f4 (hX.fn hkn) hk) rfl (c_Fun_fails4 l G ad ow Z k (hX.fn hkn) hk (hwp c25).1) q_469 q_471 q_476 q_470 q_12 q_477 rfl rfl rfl rfl (by decide +kernel) ⟨by decide, by decide⟩ rfl hl.1 (Nat.le_of_ble_eq_true rfl) d_KG_stepOf_55 ⟨by decide, by decide⟩) (fun H locs hd => ?_)
      refine lv_if_eq (tgt := 69) hx hb d_KG_stepOf_58 (by decide) (fun c58 => ?_) (fun c58 => ?_)
      · refine lv_aload_n hx hb d_KG_stepOf_69 rfl (lv_at hl 0 rfl) ?_
        refine zgetN hC hd (e_key hkn) rfl i_Key 1 (by decide) z_116 (Or.inl rfl) (v := .ref (ad 2 k)) (congrArg (fun q => some (va_rf q)) (if_neg hlf)) d_KG_stepOf_70 ?_
        refine zb_i (r := (x_next Z k)) hd (zrunU (owner := "KeyGraph$Function") (n := 0) (rest := []) hC hd (e_f4 (hX.fn hkn) hk) rfl (c_Fun_next4 l G ad ow Z k (hX.fn hkn) hk) q_478 q_480 q_487 q_479 q_12 q_488 rfl rfl rfl rfl (by decide +kernel) ⟨by decide, by decide⟩ rfl hl.1 (Nat.le_of_ble_eq_true rfl) d_KG_stepOf_73 ⟨by decide, by decide⟩) (fun H locs hd => ?_)
        refine lv_istore (lv' := [(4, .int (x_next Z k)), (3, .ref (ad 1 k)), (2, .ref (ad 6 u)), (0, .ref (ad 0 0)), (1, .int (nI u))]) hx hb d_KG_stepOf_76 hl (by decide) rfl (fun ls hl => ?_)
        refine lv_iload hx hb d_KG_stepOf_78 (lv_at hl 0 rfl) ?_
        refine lv_if_ge (tgt := 97) hx hb d_KG_stepOf_80 (by decide) (fun c80 => ?_) (fun c80 => ?_)
        · obtain ⟨hj, hak⟩ := (hwp c25).2.1 c80
          obtain ⟨j, hj9, ej⟩ := nI_of (Int32.not_lt.mpr c80)
          have ejc : (x_next Z k).toNatClampNeg = j := by rw [ej, nI_clamp hj9]
          rw [ejc] at hj
          rw [ej] at hl
          have hrow := (hX.2.2.2.1 k hkn).2 _ hj
          obtain ⟨q, hq⟩ : ∃ q, xc Z 4 (k + 2) j = q + 1 := ⟨xc Z 4 (k + 2) j - 1, by omega⟩
          have hq1 : xc Z 4 (k + 2) j - 1 = q := by omega
          have hqn : q < xn Z 0 1 := by omega
          refine lv_aload_n hx hb d_KG_stepOf_97 rfl (lv_at hl 1 rfl) ?_
          refine zgetN hC hd (e_key hkn) rfl i_Key 2 (by decide) z_118 (Or.inl rfl) (v := .ref (ad 3 (k + 2))) rfl d_KG_stepOf_98 ?_
          refine lv_iload hx hb d_KG_stepOf_101 (lv_at hl 0 rfl) ?_
          refine zb_a (r := (ad 1 q)) hd (zrunV (n := 1) (rest := []) hC hd (e_list (hX.l hkn)) rfl (c_get l G ad ow Z hX (k + 2) j q (hX.l hkn) hj hq) q_352 q_353 q_354 q_4 q_355 rfl rfl rfl (by decide +kernel) ⟨by decide, by decide⟩ rfl hl.1 (Nat.le_of_ble_eq_true rfl) d_KG_stepOf_103 ⟨by decide, by decide⟩) (fun H locs hd => ?_)
          refine zcast hC hd (e_key hqn) q_105 d_KG_stepOf_106 ?_
          refine lv_astore (lv' := [(5, .ref (ad 1 q)), (4, .int (nI j)), (3, .ref (ad 1 k)), (2, .ref (ad 6 u)), (0, .ref (ad 0 0)), (1, .int (nI u))]) hx hb d_KG_stepOf_109 hl (by decide) rfl (fun ls hl => ?_)
          refine lv_aload_n hx hb d_KG_stepOf_111 rfl (lv_at hl 4 rfl) ?_
          refine lv_aload hx hb d_KG_stepOf_112 (lv_at hl 0 rfl) ?_
          refine zb_i (r := (x_isSure Z q)) hd (zrunV (n := 1) (rest := []) hC hd (e_kg hX.kg) rfl (c_KG_isSure l G ad ow Z hX q (x_isSure Z q) hqn rfl) q_421 q_423 qp_9 q_1 q_424 rfl rfl rfl (by decide +kernel) ⟨by decide, by decide⟩ rfl hl.1 (Nat.le_of_ble_eq_true rfl) d_KG_stepOf_114 ⟨by decide, by decide⟩) (fun H locs hd => ?_)
          refine lv_if_ne (tgt := 128) hx hb d_KG_stepOf_117 (by decide) (fun c117 => ?_) (fun c117 => ?_)
          · refine lv_aload_n hx hb d_KG_stepOf_128 rfl (lv_at hl 2 rfl) ?_
            refine zgetN hC hd (e_key hkn) rfl i_Key 12 (by decide) z_131 (Or.inl rfl) (v := .ref (ad 5 (xn Z 8 k))) rfl d_KG_stepOf_129 ?_
            refine lv_aload_n hx hb d_KG_stepOf_132 rfl (lv_at hl 2 rfl) ?_
            refine zgetN hC hd (e_key hkn) rfl i_Key 14 (by decide) z_133 (Or.inl rfl) (v := .int (nI (xn Z 5 k))) rfl d_KG_stepOf_133 ?_
            refine lv_iload hx hb d_KG_stepOf_136 (lv_at hl 1 rfl) ?_
            refine ziaS (k := xn Z 5 k) (Z' := (sc Z 5 (xn Z 8 k) (xn Z 5 k) j)) hC hd (e_arr (hX.ar (hX.2.2.2.2.2 k hkn).2)) (by omega) (by decide) (u_arr (hX.ar (hX.2.2.2.2.2 k hkn).2)) d_KG_stepOf_138 (fun H locs hd => ?_)
            refine lv_aload_n hx hb d_KG_stepOf_139 rfl (lv_at hl 2 rfl) ?_
            refine lv_dup hx hb d_KG_stepOf_140 rfl ?_
            refine zgetN hC hd (e_key hkn) rfl i_Key 14 (by decide) z_133 (Or.inl rfl) (v := .int (nI (xn Z 5 k))) rfl d_KG_stepOf_141 ?_
            refine lv_iconst (v := 1) hx hb d_KG_stepOf_144 (by decide) ?_
            refine zaddN (x := xn Z 5 k) (y := 1) hx hb d_KG_stepOf_145 ?_
            refine zputN (Z' := (sn (sc Z 5 (xn Z 8 k) (xn Z 5 k) j) 5 k ((xn Z 5 k) + 1))) (v := .int (nI ((xn Z 5 k) + 1))) hC hd (e_key hkn) rfl i_Key t_Key t_Key_ok n_Key 14 (by decide) z_133 rfl rfl rfl rfl (Nat.le_of_ble_eq_true rfl) (u_askingC hkn) d_KG_stepOf_146 (fun H locs hd => ?_)
            refine lv_aload hx hb d_KG_stepOf_149 (lv_at hl 0 rfl) ?_
            refine zgetN hC hd (e_key hqn) rfl i_Key 3 (by decide) z_119 (Or.inl rfl) (v := .int (xi Z 1 q)) rfl d_KG_stepOf_151 ?_
            refine lv_iconst (v := 1) hx hb d_KG_stepOf_154 (by decide) ?_
            refine lv_icmp_eq (tgt := 166) hx hb d_KG_stepOf_155 (by decide) (fun c155 => ?_) (fun c155 => ?_)
            · refine lv_aload_n hx hb d_KG_stepOf_166 rfl (lv_at hl 2 rfl) ?_
              refine zgetN hC hd (e_key hkn) rfl i_Key 1 (by decide) z_116 (Or.inl rfl) (v := .ref (ad 2 k)) (congrArg (fun q => some (va_rf q)) (if_neg hlf)) d_KG_stepOf_167 ?_
              refine lv_aload hx hb d_KG_stepOf_170 (lv_at hl 0 rfl) ?_
              refine zgetN hC hd (e_key hqn) rfl i_Key 4 (by decide) z_120 (Or.inl rfl) (v := .long (xl Z 1 q)) rfl d_KG_stepOf_172 ?_
              refine zb_v hd (zrunU (owner := "KeyGraph$Function") (n := 1) (rest := []) hC hd (e_f4 (hX.fn hkn) hk) rfl (c_Fun_take4 l G ad ow (sn (sc Z 5 (xn Z 8 k) (xn Z 5 k) j) 5 k ((xn Z 5 k) + 1)) k (hX.fn hkn) hk (xl Z 1 q)) q_500 q_502 q_513 q_501 q_12 q_514 rfl rfl rfl rfl (by decide +kernel) ⟨by decide, by decide⟩ rfl hl.1 (Nat.le_of_ble_eq_true rfl) d_KG_stepOf_175 ⟨by decide, by decide⟩) (fun H locs hd => ?_)
              refine lv_bipush (v := 6) hx hb d_KG_stepOf_178 (by decide) ?_
              exact zfi hC hd hr hlk d_KG_stepOf_180 (by unfold x_stepOf x_step1 x_work; rw [hne1, ejc]; unfold x_workN; rw [hq1]; (repeat (first | (rw [if_pos]; rotate_left; first | assumption | decide) | (rw [if_neg]; rotate_left; first | assumption | decide))) <;> (try rfl)) (by unfold x_stepOf x_step1 x_work; rw [hne1, ejc]; unfold x_workN; rw [hq1]; (repeat (first | (rw [if_pos]; rotate_left; first | assumption | decide) | (rw [if_neg]; rotate_left; first | assumption | decide))) <;> (try rfl))
            · refine lv_aload_n hx hb d_KG_stepOf_158 rfl (lv_at hl 4 rfl) ?_
              refine lv_aload_n hx hb d_KG_stepOf_159 rfl (lv_at hl 3 rfl) ?_
              refine lv_iconst (v := 3) hx hb d_KG_stepOf_160 (by decide) ?_
              refine lv_lconst (v := 0) hx hb d_KG_stepOf_161 (by decide) ?_
              refine zb_i (r := 2) hd (zrunV (n := 3) (rest := []) hC hd (e_kg hX.kg) rfl (c_KG_ends l G ad ow (sn (sc Z 5 (xn Z 8 k) (xn Z 5 k) j) 5 k ((xn Z 5 k) + 1)) hX u k hu hkn (show 1 ≤ xn Z 9 u by omega) h40 hne 3 0) q_465 q_467 qp_15 q_1 q_468 rfl rfl rfl (by decide +kernel) ⟨by decide, by decide⟩ rfl hl.1 (Nat.le_of_ble_eq_true rfl) d_KG_stepOf_162 ⟨by decide, by decide⟩) (fun H locs hd => ?_)
              exact zfi hC hd hr hlk d_KG_stepOf_165 (by unfold x_stepOf x_step1 x_work; rw [hne1, ejc]; unfold x_workN; rw [hq1]; (repeat (first | (rw [if_pos]; rotate_left; first | assumption | decide) | (rw [if_neg]; rotate_left; first | assumption | decide))) <;> (try rfl)) (by unfold x_stepOf x_step1 x_work; rw [hne1, ejc]; unfold x_workN; rw [hq1]; (repeat (first | (rw [if_pos]; rotate_left; first | assumption | decide) | (rw [if_neg]; rotate_left; first | assumption | decide))) <;> (try rfl))
          · refine lv_aload_n hx hb d_KG_stepOf_120 rfl (lv_at hl 4 rfl) ?_
            refine lv_iload_n hx hb d_KG_stepOf_121 rfl (lv_at hl 5 rfl) ?_
            refine lv_aload hx hb d_KG_stepOf_122 (lv_at hl 0 rfl) ?_
            refine zb_i (r := ((x_goesDown Z u q).2)) hd (zrunV (n := 2) (rest := []) hC hd (e_kg hX.kg) rfl (c_KG_goesDown l G ad ow Z hX u q hu hqn (hdo q hqn c117).1 (hdo q hqn c117).2) q_461 q_463 qp_14 q_1 q_464 rfl rfl rfl (by decide +kernel) ⟨by decide, by decide⟩ rfl hl.1 (Nat.le_of_ble_eq_true rfl) d_KG_stepOf_124 ⟨by decide, by decide⟩) (fun H locs hd => ?_)
            exact zfi hC hd hr hlk d_KG_stepOf_127 (by unfold x_stepOf x_step1 x_work; rw [hne1, ejc]; unfold x_workN; rw [hq1]; (repeat (first | (rw [if_pos]; rotate_left; first | assumption | decide) | (rw [if_neg]; rotate_left; first | assumption | decide))) <;> (try rfl)) (by unfold x_stepOf x_step1 x_work; rw [hne1, ejc]; unfold x_workN; rw [hq1]; (repeat (first | (rw [if_pos]; rotate_left; first | assumption | decide) | (rw [if_neg]; rotate_left; first | assumption | decide))) <;> (try rfl))
        · refine lv_aload_n hx hb d_KG_stepOf_83 rfl (lv_at hl 3 rfl) ?_
          refine lv_aload_n hx hb d_KG_stepOf_84 rfl (lv_at hl 2 rfl) ?_
          refine lv_iconst (v := 1) hx hb d_KG_stepOf_85 (by decide) ?_
          refine lv_aload_n hx hb d_KG_stepOf_86 rfl (lv_at hl 1 rfl) ?_
          refine zgetN hC hd (e_key hkn) rfl i_Key 1 (by decide) z_116 (Or.inl rfl) (v := .ref (ad 2 k)) (congrArg (fun q => some (va_rf q)) (if_neg hlf)) d_KG_stepOf_87 ?_
          refine zb_l (r := (x_result Z k)) hd (zrunO (owner := "KeyGraph$Function") (n := 0) (rest := [.int 1, .ref (ad 6 u), .ref (ad 0 0)]) hC hd (e_f4 (hX.fn hkn) hk) rfl (c_Sum_result4 l G ad ow Z k (hX.fn hkn) hk) q_489 q_491 q_490 q_496 q_497 q_13 q_498 q_499 rfl rfl rfl (by decide +kernel) ⟨by decide, by decide⟩ rfl hl.1 (Nat.le_of_ble_eq_true rfl) d_KG_stepOf_90 ⟨by decide, by decide⟩) (fun H locs hd => ?_)
          refine zb_i (r := 2) hd (zrunV (n := 3) (rest := []) hC hd (e_kg hX.kg) rfl (c_KG_ends l G ad ow Z hX u k hu hkn (show 1 ≤ xn Z 9 u by omega) h40 hne 1 (x_result Z k)) q_465 q_467 qp_15 q_1 q_468 rfl rfl rfl (by decide +kernel) ⟨by decide, by decide⟩ rfl hl.1 (Nat.le_of_ble_eq_true rfl) d_KG_stepOf_93 ⟨by decide, by decide⟩) (fun H locs hd => ?_)
          exact zfi hC hd hr hlk d_KG_stepOf_96 (by unfold x_stepOf x_step1 x_work; rw [hne1]; (repeat (first | (rw [if_pos]; rotate_left; first | assumption | decide) | (rw [if_neg]; rotate_left; first | assumption | decide))) <;> (try rfl)) (by unfold x_stepOf x_step1 x_work; rw [hne1]; (repeat (first | (rw [if_pos]; rotate_left; first | assumption | decide) | (rw [if_neg]; rotate_left; first | assumption | decide))) <;> (try rfl))
      · refine lv_aload_n hx hb d_KG_stepOf_61 rfl (lv_at hl 2 rfl) ?_
        refine lv_aload_n hx hb d_KG_stepOf_62 rfl (lv_at hl 1 rfl) ?_
        refine lv_iconst (v := 2) hx hb d_KG_stepOf_63 (by decide) ?_
        refine lv_lconst (v := 0) hx hb d_KG_stepOf_64 (by decide) ?_
        refine zb_i (r := 2) hd (zrunV (n := 3) (rest := []) hC hd (e_kg hX.kg) rfl (c_KG_ends l G ad ow Z hX u k hu hkn (show 1 ≤ xn Z 9 u by omega) h40 hne 2 0) q_465 q_467 qp_15 q_1 q_468 rfl rfl rfl (by decide +kernel) ⟨by decide, by decide⟩ rfl hl.1 (Nat.le_of_ble_eq_true rfl) d_KG_stepOf_65 ⟨by decide, by decide⟩) (fun H locs hd => ?_)
        exact zfi hC hd hr hlk d_KG_stepOf_68 (by unfold x_stepOf x_step1 x_work; rw [hne1]; (repeat (first | (rw [if_pos]; rotate_left; first | assumption | decide) | (rw [if_neg]; rotate_left; first | assumption | decide))) <;> (try rfl)) (by unfold x_stepOf x_step1 x_work; rw [hne1]; (repeat (first | (rw [if_pos]; rotate_left; first | assumption | decide) | (rw [if_neg]; rotate_left; first | assumption | decide))) <;> (try rfl))
    · refine lv_aload_n hx hb d_KG_stepOf_43 rfl (lv_at hl 2 rfl) ?_
      refine lv_aload_n hx hb d_KG_stepOf_44 rfl (lv_at hl 1 rfl) ?_
      refine lv_iconst (v := 2) hx hb d_KG_stepOf_45 (by decide) ?_
      refine lv_lconst (v := 0) hx hb d_KG_stepOf_46 (by decide) ?_
      refine zb_i (r := 2) hd (zrunV (n := 3) (rest := []) hC hd (e_kg hX.kg) rfl (c_KG_ends l G ad ow Z hX u k hu hkn (show 1 ≤ xn Z 9 u by omega) h40 hne 2 0) q_465 q_467 qp_15 q_1 q_468 rfl rfl rfl (by decide +kernel) ⟨by decide, by decide⟩ rfl hl.1 (Nat.le_of_ble_eq_true rfl) d_KG_stepOf_47 ⟨by decide, by decide⟩) (fun H locs hd => ?_)
      exact zfi hC hd hr hlk d_KG_stepOf_50 (by unfold x_stepOf x_step1 x_work; rw [hne1]; (repeat (first | (rw [if_pos]; rotate_left; first | assumption | decide) | (rw [if_neg]; rotate_left; first | assumption | decide))) <;> (try rfl)) (by unfold x_stepOf x_step1 x_work; rw [hne1]; (repeat (first | (rw [if_pos]; rotate_left; first | assumption | decide) | (rw [if_neg]; rotate_left; first | assumption | decide))) <;> (try rfl))
  · refine lv_aload_n hx hb d_KG_stepOf_28 rfl (lv_at hl 2 rfl) ?_
    refine lv_iload_n hx hb d_KG_stepOf_29 rfl (lv_at hl 3 rfl) ?_
    refine lv_aload_n hx hb d_KG_stepOf_30 rfl (lv_at hl 1 rfl) ?_
    refine lv_aload_n hx hb d_KG_stepOf_31 rfl (lv_at hl 0 rfl) ?_
    refine zb_i (r := ((x_check Z u k).2)) hd (zrunV (n := 3) (rest := []) hC hd (e_kg hX.kg) rfl (c_KG_check l G ad ow Z hX u k hu hkn (by omega) h40 hne hdo (hcp c25) hab) q_453 q_455 qp_12 q_1 q_456 rfl rfl rfl (by decide +kernel) ⟨by decide, by decide⟩ rfl hl.1 (Nat.le_of_ble_eq_true rfl) d_KG_stepOf_32 ⟨by decide, by decide⟩) (fun H locs hd => ?_)
    exact zfi hC hd hr hlk d_KG_stepOf_35 (by unfold x_stepOf x_step1 x_work; rw [hne1]; (repeat (first | (rw [if_pos]; rotate_left; first | assumption | decide) | (rw [if_neg]; rotate_left; first | assumption | decide))) <;> (try rfl)) (by unfold x_stepOf x_step1 x_work; rw [hne1]; (repeat (first | (rw [if_pos]; rotate_left; first | assumption | decide) | (rw [if_neg]; rotate_left; first | assumption | decide))) <;> (try rfl))
set_option maxHeartbeats 4000000 in
theorem c_KG_stepOf5 (l : Launch) (G : Gt) (ad : Nat → Nat → Nat) (ow : Nat → Nat × Nat) (Z : Zt) (hX : XS Z) (u k : Nat) (hu : u < 5) (hkn : k < xn Z 0 1) (h0 : ¬ xn Z 9 u = 0) (h40 : xn Z 9 u ≤ 40) (hne : xc Z 7 u (xn Z 9 u - 1) = k + 1) (hk : xn Z 1 k = 5) (hdo : DownOk Z u) (hcp : ¬ xi Z 9 k = 0 → CheckPre Z k) (hwp : xi Z 9 k = 0 → WorkPre Z k) (hab : xn Z 6 k ≤ 2147483647 ∧ xn Z 4 k ≤ 2147483647) : Met l y_KG_stepOf w_KG_stepOf ({ frames := 5, cells := 0, slots := 0, locals := 111 }) (zPc G ad ow Z [.ref (ad 0 0), .int (nI u)]) (Qd G ad ow ((x_stepOf Z u).1) (some (.int (x_stepOf Z u).2))) 0 0 (zA G) := by
  refine zopen (cc := b_KG_stepOf) (maxL := 6) (ret := (some FieldType.int)) (by decide) rfl (Nat.le_of_ble_eq_true rfl) ?_
  intro p e s m below meth c ls hC hr hlk hnm hd hl
  have hC : Cx G p c m s _ "KeyGraph" b_KG_stepOf 6 := hC
  have hl : lv_has ls 6 [(0, .ref (ad 0 0)), (1, .int (nI u))] := hl
  have hx := hC.1
  have hb := hC.2.1
  have hlf : ¬ xn Z 1 k = 6 := by omega
  have hk40 := hX.k40
  have hne1 : xc Z 7 u (xn Z 9 u - 1) - 1 = k := by omega
  refine lv_aload_n hx hb d_KG_stepOf_0 rfl (lv_at hl 0 rfl) ?_
  refine zget hC hd (e_kg hX.kg) rfl i_KG 1 (by decide) q_81 (Or.inl rfl) (v := .ref (ad 8 0)) rfl d_KG_stepOf_1 ?_
  refine lv_iload_n hx hb d_KG_stepOf_4 rfl (lv_at hl 1 rfl) ?_
  refine zaaP (k := u) hC hd (e_piles hX.ps) (by omega) (by decide) rfl d_KG_stepOf_5 ?_
  refine lv_astore_n (lv' := [(2, .ref (ad 6 u)), (0, .ref (ad 0 0)), (1, .int (nI u))]) hx hb d_KG_stepOf_6 rfl hl (by decide) rfl (fun ls hl => ?_)
  refine lv_aload_n hx hb d_KG_stepOf_7 rfl (lv_at hl 0 rfl) ?_
  refine zgetN hC hd (e_pile (hX.pl hu)) rfl i_Pile 1 (by decide) z_74 (Or.inl rfl) (v := .int (nI (xn Z 9 u))) rfl d_KG_stepOf_8 ?_
  refine zi_ne (x := xn Z 9 u) (tgt := 16) (by omega) hx hb d_KG_stepOf_11 (by decide) (fun c11 => ?_) (fun c11 => absurd c11 (by omega))
  refine lv_aload_n hx hb d_KG_stepOf_16 rfl (lv_at hl 0 rfl) ?_
  refine zb_a (r := (ad 1 k)) hd (zrunV (n := 0) (rest := []) hC hd (e_pile (hX.pl hu)) rfl (c_Pile_top l G ad ow Z hX u hu (by omega) (by omega) k hne) q_394 q_395 q_396 q_5 q_397 rfl rfl rfl (by decide +kernel) ⟨by decide, by decide⟩ rfl hl.1 (Nat.le_of_ble_eq_true rfl) d_KG_stepOf_17 ⟨by decide, by decide⟩) (fun H locs hd => ?_)
  refine lv_astore_n (lv' := [(3, .ref (ad 1 k)), (2, .ref (ad 6 u)), (0, .ref (ad 0 0)), (1, .int (nI u))]) hx hb d_KG_stepOf_20 rfl hl (by decide) rfl (fun ls hl => ?_)
  refine lv_aload_n hx hb d_KG_stepOf_21 rfl (lv_at hl 0 rfl) ?_
  refine zgetN hC hd (e_key hkn) rfl i_Key 17 (by decide) z_137 (Or.inl rfl) (v := .int (xi Z 9 k)) rfl d_KG_stepOf_22 ?_
  refine lv_if_eq (tgt := 36) hx hb d_KG_stepOf_25 (by decide) (fun c25 => ?_) (fun c25 => ?_)
  · refine lv_aload_n hx hb d_KG_stepOf_36 rfl (lv_at hl 0 rfl) ?_
    refine zgetN hC hd (e_key hkn) rfl i_Key 10 (by decide) z_127 (Or.inl rfl) (v := .int (xi Z 7 k)) rfl d_KG_stepOf_37 ?_
    refine lv_if_eq (tgt := 51) hx hb d_KG_stepOf_40 (by decide) (fun c40 => ?_) (fun c40 => ?_)
    · refine lv_aload_n hx hb d_KG_stepOf_51 rfl (lv_at hl 0 rfl) ?_
      refine zgetN hC hd (e_key hkn) rfl i_Key 1 (by decide) z_116 (Or.inl rfl) (v := .ref (ad 2 k)) (congrArg (fun q => some (va_rf q)) (if_neg hlf)) d_KG_stepOf_52 ?_
      refine zb_i (r := (xi Z 12 k)) hd (zrunU (owner := "KeyGraph$Function") (n := 0) (rest := []) hC hd (e_f5 (hX.fn hkn) hk) rfl (c_Fun_fails5 l G ad ow Z k (hX.fn hkn) hk (hwp c25).1) q_469 q_471 q_474 q_470 q_12 q_477 rfl rfl rfl rfl (by decide +kernel) ⟨by decide, by decide⟩ rfl hl.1 (Nat.le_of_ble_eq_true rfl) d_KG_stepOf_55 ⟨by decide, by decide⟩) (fun H locs hd => ?_)
      refine lv_if_eq (tgt := 69) hx hb d_KG_stepOf_58 (by decide) (fun c58 => ?_) (fun c58 => ?_)
      · refine lv_aload_n hx hb d_KG_stepOf_69 rfl (lv_at hl 0 rfl) ?_
        refine zgetN hC hd (e_key hkn) rfl i_Key 1 (by decide) z_116 (Or.inl rfl) (v := .ref (ad 2 k)) (congrArg (fun q => some (va_rf q)) (if_neg hlf)) d_KG_stepOf_70 ?_
        refine zb_i (r := (x_next Z k)) hd (zrunU (owner := "KeyGraph$Function") (n := 0) (rest := []) hC hd (e_f5 (hX.fn hkn) hk) rfl (c_Fun_next5 l G ad ow Z k (hX.fn hkn) hk) q_478 q_480 q_485 q_479 q_12 q_488 rfl rfl rfl rfl (by decide +kernel) ⟨by decide, by decide⟩ rfl hl.1 (Nat.le_of_ble_eq_true rfl) d_KG_stepOf_73 ⟨by decide, by decide⟩) (fun H locs hd => ?_)
        refine lv_istore (lv' := [(4, .int (x_next Z k)), (3, .ref (ad 1 k)), (2, .ref (ad 6 u)), (0, .ref (ad 0 0)), (1, .int (nI u))]) hx hb d_KG_stepOf_76 hl (by decide) rfl (fun ls hl => ?_)
        refine lv_iload hx hb d_KG_stepOf_78 (lv_at hl 0 rfl) ?_
        refine lv_if_ge (tgt := 97) hx hb d_KG_stepOf_80 (by decide) (fun c80 => ?_) (fun c80 => ?_)
        · obtain ⟨hj, hak⟩ := (hwp c25).2.1 c80
          obtain ⟨j, hj9, ej⟩ := nI_of (Int32.not_lt.mpr c80)
          have ejc : (x_next Z k).toNatClampNeg = j := by rw [ej, nI_clamp hj9]
          rw [ejc] at hj
          rw [ej] at hl
          have hrow := (hX.2.2.2.1 k hkn).2 _ hj
          obtain ⟨q, hq⟩ : ∃ q, xc Z 4 (k + 2) j = q + 1 := ⟨xc Z 4 (k + 2) j - 1, by omega⟩
          have hq1 : xc Z 4 (k + 2) j - 1 = q := by omega
          have hqn : q < xn Z 0 1 := by omega
          refine lv_aload_n hx hb d_KG_stepOf_97 rfl (lv_at hl 1 rfl) ?_
          refine zgetN hC hd (e_key hkn) rfl i_Key 2 (by decide) z_118 (Or.inl rfl) (v := .ref (ad 3 (k + 2))) rfl d_KG_stepOf_98 ?_
          refine lv_iload hx hb d_KG_stepOf_101 (lv_at hl 0 rfl) ?_
          refine zb_a (r := (ad 1 q)) hd (zrunV (n := 1) (rest := []) hC hd (e_list (hX.l hkn)) rfl (c_get l G ad ow Z hX (k + 2) j q (hX.l hkn) hj hq) q_352 q_353 q_354 q_4 q_355 rfl rfl rfl (by decide +kernel) ⟨by decide, by decide⟩ rfl hl.1 (Nat.le_of_ble_eq_true rfl) d_KG_stepOf_103 ⟨by decide, by decide⟩) (fun H locs hd => ?_)
          refine zcast hC hd (e_key hqn) q_105 d_KG_stepOf_106 ?_
          refine lv_astore (lv' := [(5, .ref (ad 1 q)), (4, .int (nI j)), (3, .ref (ad 1 k)), (2, .ref (ad 6 u)), (0, .ref (ad 0 0)), (1, .int (nI u))]) hx hb d_KG_stepOf_109 hl (by decide) rfl (fun ls hl => ?_)
          refine lv_aload_n hx hb d_KG_stepOf_111 rfl (lv_at hl 4 rfl) ?_
          refine lv_aload hx hb d_KG_stepOf_112 (lv_at hl 0 rfl) ?_
          refine zb_i (r := (x_isSure Z q)) hd (zrunV (n := 1) (rest := []) hC hd (e_kg hX.kg) rfl (c_KG_isSure l G ad ow Z hX q (x_isSure Z q) hqn rfl) q_421 q_423 qp_9 q_1 q_424 rfl rfl rfl (by decide +kernel) ⟨by decide, by decide⟩ rfl hl.1 (Nat.le_of_ble_eq_true rfl) d_KG_stepOf_114 ⟨by decide, by decide⟩) (fun H locs hd => ?_)
          refine lv_if_ne (tgt := 128) hx hb d_KG_stepOf_117 (by decide) (fun c117 => ?_) (fun c117 => ?_)
          · refine lv_aload_n hx hb d_KG_stepOf_128 rfl (lv_at hl 2 rfl) ?_
            refine zgetN hC hd (e_key hkn) rfl i_Key 12 (by decide) z_131 (Or.inl rfl) (v := .ref (ad 5 (xn Z 8 k))) rfl d_KG_stepOf_129 ?_
            refine lv_aload_n hx hb d_KG_stepOf_132 rfl (lv_at hl 2 rfl) ?_
            refine zgetN hC hd (e_key hkn) rfl i_Key 14 (by decide) z_133 (Or.inl rfl) (v := .int (nI (xn Z 5 k))) rfl d_KG_stepOf_133 ?_
            refine lv_iload hx hb d_KG_stepOf_136 (lv_at hl 1 rfl) ?_
            refine ziaS (k := xn Z 5 k) (Z' := (sc Z 5 (xn Z 8 k) (xn Z 5 k) j)) hC hd (e_arr (hX.ar (hX.2.2.2.2.2 k hkn).2)) (by omega) (by decide) (u_arr (hX.ar (hX.2.2.2.2.2 k hkn).2)) d_KG_stepOf_138 (fun H locs hd => ?_)
            refine lv_aload_n hx hb d_KG_stepOf_139 rfl (lv_at hl 2 rfl) ?_
            refine lv_dup hx hb d_KG_stepOf_140 rfl ?_
            refine zgetN hC hd (e_key hkn) rfl i_Key 14 (by decide) z_133 (Or.inl rfl) (v := .int (nI (xn Z 5 k))) rfl d_KG_stepOf_141 ?_
            refine lv_iconst (v := 1) hx hb d_KG_stepOf_144 (by decide) ?_
            refine zaddN (x := xn Z 5 k) (y := 1) hx hb d_KG_stepOf_145 ?_
            refine zputN (Z' := (sn (sc Z 5 (xn Z 8 k) (xn Z 5 k) j) 5 k ((xn Z 5 k) + 1))) (v := .int (nI ((xn Z 5 k) + 1))) hC hd (e_key hkn) rfl i_Key t_Key t_Key_ok n_Key 14 (by decide) z_133 rfl rfl rfl rfl (Nat.le_of_ble_eq_true rfl) (u_askingC hkn) d_KG_stepOf_146 (fun H locs hd => ?_)
            refine lv_aload hx hb d_KG_stepOf_149 (lv_at hl 0 rfl) ?_
            refine zgetN hC hd (e_key hqn) rfl i_Key 3 (by decide) z_119 (Or.inl rfl) (v := .int (xi Z 1 q)) rfl d_KG_stepOf_151 ?_
            refine lv_iconst (v := 1) hx hb d_KG_stepOf_154 (by decide) ?_
            refine lv_icmp_eq (tgt := 166) hx hb d_KG_stepOf_155 (by decide) (fun c155 => ?_) (fun c155 => ?_)
            · refine lv_aload_n hx hb d_KG_stepOf_166 rfl (lv_at hl 2 rfl) ?_
              refine zgetN hC hd (e_key hkn) rfl i_Key 1 (by decide) z_116 (Or.inl rfl) (v := .ref (ad 2 k)) (congrArg (fun q => some (va_rf q)) (if_neg hlf)) d_KG_stepOf_167 ?_
              refine lv_aload hx hb d_KG_stepOf_170 (lv_at hl 0 rfl) ?_
              refine zgetN hC hd (e_key hqn) rfl i_Key 4 (by decide) z_120 (Or.inl rfl) (v := .long (xl Z 1 q)) rfl d_KG_stepOf_172 ?_
              refine zb_v hd (zrunU (owner := "KeyGraph$Function") (n := 1) (rest := []) hC hd (e_f5 (hX.fn hkn) hk) rfl (c_Fun_take5 l G ad ow (sn (sc Z 5 (xn Z 8 k) (xn Z 5 k) j) 5 k ((xn Z 5 k) + 1)) k (hX.fn hkn) hk (xl Z 1 q)) q_500 q_502 q_511 q_501 q_12 q_514 rfl rfl rfl rfl (by decide +kernel) ⟨by decide, by decide⟩ rfl hl.1 (Nat.le_of_ble_eq_true rfl) d_KG_stepOf_175 ⟨by decide, by decide⟩) (fun H locs hd => ?_)
              refine lv_bipush (v := 6) hx hb d_KG_stepOf_178 (by decide) ?_
              exact zfi hC hd hr hlk d_KG_stepOf_180 (by unfold x_stepOf x_step1 x_work; rw [hne1, ejc]; unfold x_workN; rw [hq1]; (repeat (first | (rw [if_pos]; rotate_left; first | assumption | decide) | (rw [if_neg]; rotate_left; first | assumption | decide))) <;> (try rfl)) (by unfold x_stepOf x_step1 x_work; rw [hne1, ejc]; unfold x_workN; rw [hq1]; (repeat (first | (rw [if_pos]; rotate_left; first | assumption | decide) | (rw [if_neg]; rotate_left; first | assumption | decide))) <;> (try rfl))
            · refine lv_aload_n hx hb d_KG_stepOf_158 rfl (lv_at hl 4 rfl) ?_
              refine lv_aload_n hx hb d_KG_stepOf_159 rfl (lv_at hl 3 rfl) ?_
              refine lv_iconst (v := 3) hx hb d_KG_stepOf_160 (by decide) ?_
              refine lv_lconst (v := 0) hx hb d_KG_stepOf_161 (by decide) ?_
              refine zb_i (r := 2) hd (zrunV (n := 3) (rest := []) hC hd (e_kg hX.kg) rfl (c_KG_ends l G ad ow (sn (sc Z 5 (xn Z 8 k) (xn Z 5 k) j) 5 k ((xn Z 5 k) + 1)) hX u k hu hkn (show 1 ≤ xn Z 9 u by omega) h40 hne 3 0) q_465 q_467 qp_15 q_1 q_468 rfl rfl rfl (by decide +kernel) ⟨by decide, by decide⟩ rfl hl.1 (Nat.le_of_ble_eq_true rfl) d_KG_stepOf_162 ⟨by decide, by decide⟩) (fun H locs hd => ?_)
              exact zfi hC hd hr hlk d_KG_stepOf_165 (by unfold x_stepOf x_step1 x_work; rw [hne1, ejc]; unfold x_workN; rw [hq1]; (repeat (first | (rw [if_pos]; rotate_left; first | assumption | decide) | (rw [if_neg]; rotate_left; first | assumption | decide))) <;> (try rfl)) (by unfold x_stepOf x_step1 x_work; rw [hne1, ejc]; unfold x_workN; rw [hq1]; (repeat (first | (rw [if_pos]; rotate_left; first | assumption | decide) | (rw [if_neg]; rotate_left; first | assumption | decide))) <;> (try rfl))
          · refine lv_aload_n hx hb d_KG_stepOf_120 rfl (lv_at hl 4 rfl) ?_
            refine lv_iload_n hx hb d_KG_stepOf_121 rfl (lv_at hl 5 rfl) ?_
            refine lv_aload hx hb d_KG_stepOf_122 (lv_at hl 0 rfl) ?_
            refine zb_i (r := ((x_goesDown Z u q).2)) hd (zrunV (n := 2) (rest := []) hC hd (e_kg hX.kg) rfl (c_KG_goesDown l G ad ow Z hX u q hu hqn (hdo q hqn c117).1 (hdo q hqn c117).2) q_461 q_463 qp_14 q_1 q_464 rfl rfl rfl (by decide +kernel) ⟨by decide, by decide⟩ rfl hl.1 (Nat.le_of_ble_eq_true rfl) d_KG_stepOf_124 ⟨by decide, by decide⟩) (fun H locs hd => ?_)
            exact zfi hC hd hr hlk d_KG_stepOf_127 (by unfold x_stepOf x_step1 x_work; rw [hne1, ejc]; unfold x_workN; rw [hq1]; (repeat (first | (rw [if_pos]; rotate_left; first | assumption | decide) | (rw [if_neg]; rotate_left; first | assumption | decide))) <;> (try rfl)) (by unfold x_stepOf x_step1 x_work; rw [hne1, ejc]; unfold x_workN; rw [hq1]; (repeat (first | (rw [if_pos]; rotate_left; first | assumption | decide) | (rw [if_neg]; rotate_left; first | assumption | decide))) <;> (try rfl))
        · refine lv_aload_n hx hb d_KG_stepOf_83 rfl (lv_at hl 3 rfl) ?_
          refine lv_aload_n hx hb d_KG_stepOf_84 rfl (lv_at hl 2 rfl) ?_
          refine lv_iconst (v := 1) hx hb d_KG_stepOf_85 (by decide) ?_
          refine lv_aload_n hx hb d_KG_stepOf_86 rfl (lv_at hl 1 rfl) ?_
          refine zgetN hC hd (e_key hkn) rfl i_Key 1 (by decide) z_116 (Or.inl rfl) (v := .ref (ad 2 k)) (congrArg (fun q => some (va_rf q)) (if_neg hlf)) d_KG_stepOf_87 ?_
          refine zb_l (r := (x_result Z k)) hd (zrunU (owner := "KeyGraph$Function") (n := 0) (rest := [.int 1, .ref (ad 6 u), .ref (ad 0 0)]) hC hd (e_f5 (hX.fn hkn) hk) rfl (c_Fun_result5 l G ad ow Z k (hX.fn hkn) hk) q_489 q_491 q_494 q_490 q_12 q_499 rfl rfl rfl rfl (by decide +kernel) ⟨by decide, by decide⟩ rfl hl.1 (Nat.le_of_ble_eq_true rfl) d_KG_stepOf_90 ⟨by decide, by decide⟩) (fun H locs hd => ?_)
          refine zb_i (r := 2) hd (zrunV (n := 3) (rest := []) hC hd (e_kg hX.kg) rfl (c_KG_ends l G ad ow Z hX u k hu hkn (show 1 ≤ xn Z 9 u by omega) h40 hne 1 (x_result Z k)) q_465 q_467 qp_15 q_1 q_468 rfl rfl rfl (by decide +kernel) ⟨by decide, by decide⟩ rfl hl.1 (Nat.le_of_ble_eq_true rfl) d_KG_stepOf_93 ⟨by decide, by decide⟩) (fun H locs hd => ?_)
          exact zfi hC hd hr hlk d_KG_stepOf_96 (by unfold x_stepOf x_step1 x_work; rw [hne1]; (repeat (first | (rw [if_pos]; rotate_left; first | assumption | decide) | (rw [if_neg]; rotate_left; first | assumption | decide))) <;> (try rfl)) (by unfold x_stepOf x_step1 x_work; rw [hne1]; (repeat (first | (rw [if_pos]; rotate_left; first | assumption | decide) | (rw [if_neg]; rotate_left; first | assumption | decide))) <;> (try rfl))
      · refine lv_aload_n hx hb d_KG_stepOf_61 rfl (lv_at hl 2 rfl) ?_
        refine lv_aload_n hx hb d_KG_stepOf_62 rfl (lv_at hl 1 rfl) ?_
        refine lv_iconst (v := 2) hx hb d_KG_stepOf_63 (by decide) ?_
        refine lv_lconst (v := 0) hx hb d_KG_stepOf_64 (by decide) ?_
        refine zb_i (r := 2) hd (zrunV (n := 3) (rest := []) hC hd (e_kg hX.kg) rfl (c_KG_ends l G ad ow Z hX u k hu hkn (show 1 ≤ xn Z 9 u by omega) h40 hne 2 0) q_465 q_467 qp_15 q_1 q_468 rfl rfl rfl (by decide +kernel) ⟨by decide, by decide⟩ rfl hl.1 (Nat.le_of_ble_eq_true rfl) d_KG_stepOf_65 ⟨by decide, by decide⟩) (fun H locs hd => ?_)
        exact zfi hC hd hr hlk d_KG_stepOf_68 (by unfold x_stepOf x_step1 x_work; rw [hne1]; (repeat (first | (rw [if_pos]; rotate_left; first | assumption | decide) | (rw [if_neg]; rotate_left; first | assumption | decide))) <;> (try rfl)) (by unfold x_stepOf x_step1 x_work; rw [hne1]; (repeat (first | (rw [if_pos]; rotate_left; first | assumption | decide) | (rw [if_neg]; rotate_left; first | assumption | decide))) <;> (try rfl))
    · refine lv_aload_n hx hb d_KG_stepOf_43 rfl (lv_at hl 2 rfl) ?_
      refine lv_aload_n hx hb d_KG_stepOf_44 rfl (lv_at hl 1 rfl) ?_
      refine lv_iconst (v := 2) hx hb d_KG_stepOf_45 (by decide) ?_
      refine lv_lconst (v := 0) hx hb d_KG_stepOf_46 (by decide) ?_
      refine zb_i (r := 2) hd (zrunV (n := 3) (rest := []) hC hd (e_kg hX.kg) rfl (c_KG_ends l G ad ow Z hX u k hu hkn (show 1 ≤ xn Z 9 u by omega) h40 hne 2 0) q_465 q_467 qp_15 q_1 q_468 rfl rfl rfl (by decide +kernel) ⟨by decide, by decide⟩ rfl hl.1 (Nat.le_of_ble_eq_true rfl) d_KG_stepOf_47 ⟨by decide, by decide⟩) (fun H locs hd => ?_)
      exact zfi hC hd hr hlk d_KG_stepOf_50 (by unfold x_stepOf x_step1 x_work; rw [hne1]; (repeat (first | (rw [if_pos]; rotate_left; first | assumption | decide) | (rw [if_neg]; rotate_left; first | assumption | decide))) <;> (try rfl)) (by unfold x_stepOf x_step1 x_work; rw [hne1]; (repeat (first | (rw [if_pos]; rotate_left; first | assumption | decide) | (rw [if_neg]; rotate_left; first | assumption | decide))) <;> (try rfl))
  · refine lv_aload_n hx hb d_KG_stepOf_28 rfl (lv_at hl 2 rfl) ?_
    refine lv_iload_n hx hb d_KG_stepOf_29 rfl (lv_at hl 3 rfl) ?_
    refine lv_aload_n hx hb d_KG_stepOf_30 rfl (lv_at hl 1 rfl) ?_
    refine lv_aload_n hx hb d_KG_stepOf_31 rfl (lv_at hl 0 rfl) ?_
    refine zb_i (r := ((x_check Z u k).2)) hd (zrunV (n := 3) (rest := []) hC hd (e_kg hX.kg) rfl (c_KG_check l G ad ow Z hX u k hu hkn (by omega) h40 hne hdo (hcp c25) hab) q_453 q_455 qp_12 q_1 q_456 rfl rfl rfl (by decide +kernel) ⟨by decide, by decide⟩ rfl hl.1 (Nat.le_of_ble_eq_true rfl) d_KG_stepOf_32 ⟨by decide, by decide⟩) (fun H locs hd => ?_)
    exact zfi hC hd hr hlk d_KG_stepOf_35 (by unfold x_stepOf x_step1 x_work; rw [hne1]; (repeat (first | (rw [if_pos]; rotate_left; first | assumption | decide) | (rw [if_neg]; rotate_left; first | assumption | decide))) <;> (try rfl)) (by unfold x_stepOf x_step1 x_work; rw [hne1]; (repeat (first | (rw [if_pos]; rotate_left; first | assumption | decide) | (rw [if_neg]; rotate_left; first | assumption | decide))) <;> (try rfl))
set_option maxHeartbeats 4000000 in
theorem c_KG_stepOf_e (l : Launch) (G : Gt) (ad : Nat → Nat → Nat) (ow : Nat → Nat × Nat) (Z : Zt) (hX : XS Z) (u : Nat) (hu : u < 5) (h0 : xn Z 9 u = 0) : Met l y_KG_stepOf w_KG_stepOf ({ frames := 5, cells := 0, slots := 0, locals := 111 }) (zPc G ad ow Z [.ref (ad 0 0), .int (nI u)]) (Qd G ad ow ((x_stepOf Z u).1) (some (.int (x_stepOf Z u).2))) 0 0 (zA G) := by
  refine zopen (cc := b_KG_stepOf) (maxL := 6) (ret := (some FieldType.int)) (by decide) rfl (Nat.le_of_ble_eq_true rfl) ?_
  intro p e s m below meth c ls hC hr hlk hnm hd hl
  have hC : Cx G p c m s _ "KeyGraph" b_KG_stepOf 6 := hC
  have hl : lv_has ls 6 [(0, .ref (ad 0 0)), (1, .int (nI u))] := hl
  have hx := hC.1
  have hb := hC.2.1
  refine lv_aload_n hx hb d_KG_stepOf_0 rfl (lv_at hl 0 rfl) ?_
  refine zget hC hd (e_kg hX.kg) rfl i_KG 1 (by decide) q_81 (Or.inl rfl) (v := .ref (ad 8 0)) rfl d_KG_stepOf_1 ?_
  refine lv_iload_n hx hb d_KG_stepOf_4 rfl (lv_at hl 1 rfl) ?_
  refine zaaP (k := u) hC hd (e_piles hX.ps) (by omega) (by decide) rfl d_KG_stepOf_5 ?_
  refine lv_astore_n (lv' := [(2, .ref (ad 6 u)), (0, .ref (ad 0 0)), (1, .int (nI u))]) hx hb d_KG_stepOf_6 rfl hl (by decide) rfl (fun ls hl => ?_)
  refine lv_aload_n hx hb d_KG_stepOf_7 rfl (lv_at hl 0 rfl) ?_
  refine zgetN hC hd (e_pile (hX.pl hu)) rfl i_Pile 1 (by decide) z_74 (Or.inl rfl) (v := .int (nI (xn Z 9 u))) rfl d_KG_stepOf_8 ?_
  refine zi_ne (x := xn Z 9 u) (tgt := 16) (by omega) hx hb d_KG_stepOf_11 (by decide) (fun c11 => absurd h0 (by omega)) (fun c11 => ?_)
  refine lv_iconst (v := 0) hx hb d_KG_stepOf_14 (by decide) ?_
  exact zfi hC hd hr hlk d_KG_stepOf_15 (by unfold x_stepOf; (repeat (first | (rw [if_pos]; rotate_left; first | assumption | decide) | (rw [if_neg]; rotate_left; first | assumption | decide))) <;> (try rfl)) (by unfold x_stepOf; (repeat (first | (rw [if_pos]; rotate_left; first | assumption | decide) | (rw [if_neg]; rotate_left; first | assumption | decide))) <;> (try rfl))
theorem c_KG_stepOf (l : Launch) (G : Gt) (ad : Nat → Nat → Nat) (ow : Nat → Nat × Nat) (Z : Zt) (u : Nat) (hp : StepPre Z u) (hab : ∀ k, xn Z 6 k ≤ 2147483647 ∧ xn Z 4 k ≤ 2147483647) : Met l y_KG_stepOf w_KG_stepOf ({ frames := 5, cells := 0, slots := 0, locals := 111 }) (zPc G ad ow Z [.ref (ad 0 0), .int (nI u)]) (Qd G ad ow ((x_stepOf Z u).1) (some (.int (x_stepOf Z u).2))) 0 0 (zA G) := by
  obtain ⟨hX, hu, h40, hk⟩ := hp
  by_cases h0 : xn Z 9 u = 0
  · exact c_KG_stepOf_e l G ad ow Z hX u hu h0
  · obtain ⟨k, hkn, hne, hk6, hdo, hcp, hwp⟩ := hk h0
    rcases (show xn Z 1 k = 0 ∨ xn Z 1 k = 1 ∨ xn Z 1 k = 2 ∨ xn Z 1 k = 3 ∨ xn Z 1 k = 4 ∨ xn Z 1 k = 5 by omega) with h | h | h | h | h | h
    · exact c_KG_stepOf0 l G ad ow Z hX u k hu hkn h0 h40 hne h hdo hcp hwp (hab k)
    · exact c_KG_stepOf1 l G ad ow Z hX u k hu hkn h0 h40 hne h hdo hcp hwp (hab k)
    · exact c_KG_stepOf2 l G ad ow Z hX u k hu hkn h0 h40 hne h hdo hcp hwp (hab k)
    · exact c_KG_stepOf3 l G ad ow Z hX u k hu hkn h0 h40 hne h hdo hcp hwp (hab k)
    · exact c_KG_stepOf4 l G ad ow Z hX u k hu hkn h0 h40 hne h hdo hcp hwp (hab k)
    · exact c_KG_stepOf5 l G ad ow Z hX u k hu hkn h0 h40 hne h hdo hcp hwp (hab k)
