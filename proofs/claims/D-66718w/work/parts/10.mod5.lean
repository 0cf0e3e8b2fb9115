theorem c_Mod_isLeaf_r (l : Launch) (G : Gt) (ad : Nat → Nat → Nat) (ow : Nat → Nat × Nat) (Z : Zt) (hm : ML Z) (hn : xn Z 20 0 ≤ 40) (k r : Int32) (h : m_isLeaf Z k = r) : Met l y_Mod_isLeaf w_Mod_isLeaf ({ frames := 1, cells := 0, slots := 0, locals := 21 }) (zPc G ad ow Z [.ref (ad 10 0), .int k]) (Qd G ad ow Z (some (.int r))) 0 0 (zA G) := by
  rcases m_isKey_cases Z k hn with h0 | ⟨j, hj, rfl, h0⟩
  · exact h ▸ c_Mod_isLeaf_no l G ad ow Z hm k h0
  · exact h ▸ c_Mod_isLeaf_yes l G ad ow Z hm j (by omega) h0
theorem m_isLeaf_cases (Z : Zt) (k : Int32) (hn : xn Z 20 0 ≤ 40) : m_isLeaf Z k = 0 ∨ ∃ j, j < xn Z 20 0 ∧ k = nI j ∧ m_isLeaf Z k = 1 ∧ xi Z 503 j = -1 := by
  rcases m_isKey_cases Z k hn with h0 | ⟨j, hj, rfl, h0⟩
  · exact Or.inl (by unfold m_isLeaf; rw [if_pos h0])
  · by_cases h1 : xi Z 503 j = -1
    · exact Or.inr ⟨j, hj, rfl, by unfold m_isLeaf; rw [if_neg (by rw [h0]; decide), nI_clamp (by omega), if_pos h1], h1⟩
    · exact Or.inl (by unfold m_isLeaf; rw [if_neg (by rw [h0]; decide), nI_clamp (by omega), if_neg h1])
theorem m_isWorker_cases (w : Int32) : m_isWorker w = 0 ∨ ∃ u, u < 4 ∧ w = nI u ∧ m_isWorker w = 1 := by
  unfold m_isWorker
  by_cases h1 : w < 0
  · exact Or.inl (if_pos h1)
  · by_cases h2 : 4 ≤ w
    · exact Or.inl (by rw [if_neg h1, if_pos h2])
    · obtain ⟨j, hj, rfl⟩ := nI_of h1
      exact Or.inr ⟨j, Nat.not_le.mp fun q => h2 (nI_le (a := 4) q hj), rfl, by rw [if_neg h1, if_neg h2]⟩
def m_worked (Z : Zt) (k : Int32) : Int32 := if m_isKey Z k = 0 then 0 else xi Z 512 k.toNatClampNeg
def m_keptR (Z : Zt) (k : Int32) : Int32 := if m_isKey Z k = 0 then 0 else xi Z 513 k.toNatClampNeg
def m_changed (Z : Zt) (k : Int32) : Int32 := if m_isKey Z k = 0 then -1 else if xi Z 503 k.toNatClampNeg = -1 then xi Z 508 k.toNatClampNeg else if xi Z 516 k.toNatClampNeg = 0 then -1 else xi Z 508 k.toNatClampNeg
def m_asked (Z : Zt) (k i : Int32) : Int32 := if m_isKey Z k = 0 then -1 else if xi Z 516 k.toNatClampNeg = 0 then -1 else if i < 0 then -1 else if nI (xn Z 510 k.toNatClampNeg) ≤ i then -1 else nI (xn Z 511 (8 * k.toNatClampNeg + i.toNatClampNeg))
def m_drop (Z : Zt) (k : Int32) : Zt × Int32 := if m_isKey Z k = 0 then (m0 Z, 0) else if xi Z 516 k.toNatClampNeg = 0 then (m0 Z, 0) else (m_empty (si (m0 Z) 516 k.toNatClampNeg 0), 1)
def m_state (Z : Zt) (k : Int32) : Int32 := if m_isKey Z k = 0 then 0 else if m_isSure Z k.toNatClampNeg = 0 then 0 else xi Z 506 k.toNatClampNeg
def m_valC (Z : Zt) (k : Int32) : Int32 := if m_isKey Z k = 0 then 1 else if m_isSure Z k.toNatClampNeg = 0 then 2 else if xi Z 506 k.toNatClampNeg = 1 then 0 else 2
def m_value (Z : Zt) (k : Int32) : Int64 := if m_valC Z k = 0 then xl Z 514 k.toNatClampNeg else 0
def m_ring (Z : Zt) (i : Int32) : Int32 := if i < 0 then -1 else if i < nI (xn Z 21 0) then nI (xn Z 522 i.toNatClampNeg) else -1
def m_change (Z : Zt) (k : Int32) (v : Int64) : Zt × Int32 := if m_isLeaf Z k = 0 then (m0 Z, -1) else if xl Z 514 k.toNatClampNeg = v then (m0 Z, xi Z 21 0) else (si (m_next (sl (m0 Z) 514 k.toNatClampNeg v)) 508 k.toNatClampNeg (xi Z 21 0 + 1), xi Z 21 0 + 1)
def m_spoil (Z : Zt) (k b : Int32) : Zt × Int32 := if m_isKey Z k = 0 then (m0 Z, -1) else if m_isLeaf Z k = 0 then (if xi Z 515 k.toNatClampNeg = b then (m0 Z, xi Z 21 0) else (si (m_next (si (m0 Z) 515 k.toNatClampNeg b)) 509 k.toNatClampNeg (xi Z 21 0 + 1), xi Z 21 0 + 1)) else (m0 Z, -1)
def m_begin (Z : Zt) (w k : Int32) : Zt × Int32 := if m_isWorker w = 0 then (m0 Z, -1) else if m_isKey Z k = 0 then (m0 Z, -1) else if xn Z 517 w.toNatClampNeg = 0 then (if m_pileOf (m0 Z) k.toNatClampNeg = -1 then (if m_isSure Z k.toNatClampNeg = 0 then (m_lay (m0 Z) w.toNatClampNeg k.toNatClampNeg, 1) else (m0 Z, 0)) else (m0 Z, -2)) else (m0 Z, -1)
def m_step (Z : Zt) (w : Int32) : Zt × Int32 := if m_isWorker w = 0 then (m0 Z, -1) else m_go (m0 Z) w.toNatClampNeg

set_option maxHeartbeats 4000000 in
theorem c_Mod_worked_no (l : Launch) (G : Gt) (ad : Nat → Nat → Nat) (ow : Nat → Nat × Nat) (Z : Zt) (hm : ML Z) (hn : xn Z 20 0 ≤ 40) (k : Int32) (h0 : m_isKey Z k = 0) : Met l y_Mod_worked w_Mod_worked ({ frames := 1, cells := 0, slots := 0, locals := 21 }) (zPc G ad ow Z [.ref (ad 10 0), .int k]) (Qd G ad ow (m0 Z) (some (.int (m_worked Z k)))) 0 0 (zA G) := by
  refine zopen (cc := b_Mod_worked) (maxL := 2) (ret := (some FieldType.int)) (by decide) rfl (Nat.le_of_ble_eq_true rfl) ?_
  intro p e s m below meth c ls hC hr hlk hnm hd hl
  have hC : Cx G p c m s _ "KeyGraphModel" b_Mod_worked 2 := hC
  have hl : lv_has ls 2 [(0, .ref (ad 10 0)), (1, .int k)] := hl
  have hx := hC.1
  have hb := hC.2.1
  refine lv_aload_n hx hb d_Mod_worked_0 rfl (lv_at hl 0 rfl) ?_
  refine lv_iconst (v := 0) hx hb d_Mod_worked_1 (by decide) ?_
  refine zput (Z' := (si Z 20 0 0)) hC hd (e_mod hm.1) rfl i_Mod t_Mod t_Mod_ok n_Mod 0 (by decide) q_653 (Or.inl rfl) rfl rfl rfl (Nat.le_of_ble_eq_true rfl) (u_mcode hm.1) d_Mod_worked_2 (fun H locs hd => ?_)
  refine lv_aload_n hx hb d_Mod_worked_5 rfl (lv_at hl 0 rfl) ?_
  refine lv_iload_n hx hb d_Mod_worked_6 rfl (lv_at hl 1 rfl) ?_
  refine zb_i (r := 0) hd (zrunV (n := 1) (rest := []) hC hd (e_mod hm.1) rfl (c_Mod_isKey_r l G ad ow (si Z 20 0 0) hm k 0 h0) q_750 q_752 qp_18 q_6 q_753 rfl rfl rfl (by decide +kernel) ⟨by decide, by decide⟩ rfl hl.1 (Nat.le_of_ble_eq_true rfl) d_Mod_worked_7 ⟨by decide, by decide⟩) (fun H locs hd => ?_)
  refine lv_if_eq (tgt := 22) hx hb d_Mod_worked_10 (by decide) (fun _ => ?_) (fun c => absurd c (by decide))
  refine lv_iconst (v := 0) hx hb d_Mod_worked_22 (by decide) ?_
  exact zfi hC hd hr hlk d_Mod_worked_23 (by unfold m_worked; (repeat (first | (rw [if_pos]; rotate_left; first | assumption | decide) | (rw [if_neg]; rotate_left; first | assumption | decide))) <;> (try rfl)) rfl
set_option maxHeartbeats 4000000 in
theorem c_Mod_worked_yes (l : Launch) (G : Gt) (ad : Nat → Nat → Nat) (ow : Nat → Nat × Nat) (Z : Zt) (hm : ML Z) (hn : xn Z 20 0 ≤ 40) (k : Nat) (hk : k < xn Z 20 0) (h0 : m_isKey Z (nI k) = 1) : Met l y_Mod_worked w_Mod_worked ({ frames := 1, cells := 0, slots := 0, locals := 21 }) (zPc G ad ow Z [.ref (ad 10 0), .int (nI k)]) (Qd G ad ow (m0 Z) (some (.int (m_worked Z (nI k))))) 0 0 (zA G) := by
  refine zopen (cc := b_Mod_worked) (maxL := 2) (ret := (some FieldType.int)) (by decide) rfl (Nat.le_of_ble_eq_true rfl) ?_
  intro p e s m below meth c ls hC hr hlk hnm hd hl
  have hC : Cx G p c m s _ "KeyGraphModel" b_Mod_worked 2 := hC
  have hl : lv_has ls 2 [(0, .ref (ad 10 0)), (1, .int (nI k))] := hl
  have hx := hC.1
  have hb := hC.2.1
  have hcl : (nI k).toNatClampNeg = k := nI_clamp (by omega)
  have h0n : ¬ m_isKey Z (nI k) = 0 := by rw [h0]; decide
  refine lv_aload_n hx hb d_Mod_worked_0 rfl (lv_at hl 0 rfl) ?_
  refine lv_iconst (v := 0) hx hb d_Mod_worked_1 (by decide) ?_
  refine zput (Z' := (si Z 20 0 0)) hC hd (e_mod hm.1) rfl i_Mod t_Mod t_Mod_ok n_Mod 0 (by decide) q_653 (Or.inl rfl) rfl rfl rfl (Nat.le_of_ble_eq_true rfl) (u_mcode hm.1) d_Mod_worked_2 (fun H locs hd => ?_)
  refine lv_aload_n hx hb d_Mod_worked_5 rfl (lv_at hl 0 rfl) ?_
  refine lv_iload_n hx hb d_Mod_worked_6 rfl (lv_at hl 1 rfl) ?_
  refine zb_i (r := 1) hd (zrunV (n := 1) (rest := []) hC hd (e_mod hm.1) rfl (c_Mod_isKey_r l G ad ow (si Z 20 0 0) hm (nI k) 1 h0) q_750 q_752 qp_18 q_6 q_753 rfl rfl rfl (by decide +kernel) ⟨by decide, by decide⟩ rfl hl.1 (Nat.le_of_ble_eq_true rfl) d_Mod_worked_7 ⟨by decide, by decide⟩) (fun H locs hd => ?_)
  refine lv_if_eq (tgt := 22) hx hb d_Mod_worked_10 (by decide) (fun c => absurd c (by decide)) (fun _ => ?_)
  refine lv_aload_n hx hb d_Mod_worked_13 rfl (lv_at hl 0 rfl) ?_
  refine zget hC hd (e_mod hm.1) rfl i_Mod 12 (by decide) q_665 (Or.inl rfl) (v := .ref (ad 11 12)) rfl d_Mod_worked_14 ?_
  refine lv_iload_n hx hb d_Mod_worked_17 rfl (lv_at hl 1 rfl) ?_
  refine ziaI (k := k) (f := xi Z 512) hC hd (e_m12 hm.2) (by omega) (by decide) d_Mod_worked_18 ?_
  refine lv_goto (tgt := 23) hx hb d_Mod_worked_19 (by decide) ?_
  exact zfi hC hd hr hlk d_Mod_worked_23 (by unfold m_worked; rw [hcl]; (repeat (first | (rw [if_pos]; rotate_left; first | assumption | decide) | (rw [if_neg]; rotate_left; first | assumption | decide))) <;> (try rfl)) rfl
theorem c_Mod_worked (l : Launch) (G : Gt) (ad : Nat → Nat → Nat) (ow : Nat → Nat × Nat) (Z : Zt) (hm : ML Z) (hn : xn Z 20 0 ≤ 40) (k : Int32) : Met l y_Mod_worked w_Mod_worked ({ frames := 1, cells := 0, slots := 0, locals := 21 }) (zPc G ad ow Z [.ref (ad 10 0), .int k]) (Qd G ad ow (m0 Z) (some (.int (m_worked Z k)))) 0 0 (zA G) := by
  rcases m_isKey_cases Z k hn with h0 | ⟨j, hj, rfl, h0⟩
  · exact c_Mod_worked_no l G ad ow Z hm hn  k  h0
  · exact c_Mod_worked_yes l G ad ow Z hm hn  j  hj h0
set_option maxHeartbeats 4000000 in
theorem c_Mod_kept_no (l : Launch) (G : Gt) (ad : Nat → Nat → Nat) (ow : Nat → Nat × Nat) (Z : Zt) (hm : ML Z) (hn : xn Z 20 0 ≤ 40) (k : Int32) (h0 : m_isKey Z k = 0) : Met l y_Mod_kept w_Mod_kept ({ frames := 1, cells := 0, slots := 0, locals := 21 }) (zPc G ad ow Z [.ref (ad 10 0), .int k]) (Qd G ad ow (m0 Z) (some (.int (m_keptR Z k)))) 0 0 (zA G) := by
  refine zopen (cc := b_Mod_kept) (maxL := 2) (ret := (some FieldType.int)) (by decide) rfl (Nat.le_of_ble_eq_true rfl) ?_
  intro p e s m below meth c ls hC hr hlk hnm hd hl
  have hC : Cx G p c m s _ "KeyGraphModel" b_Mod_kept 2 := hC
  have hl : lv_has ls 2 [(0, .ref (ad 10 0)), (1, .int k)] := hl
  have hx := hC.1
  have hb := hC.2.1
  refine lv_aload_n hx hb d_Mod_kept_0 rfl (lv_at hl 0 rfl) ?_
  refine lv_iconst (v := 0) hx hb d_Mod_kept_1 (by decide) ?_
  refine zput (Z' := (si Z 20 0 0)) hC hd (e_mod hm.1) rfl i_Mod t_Mod t_Mod_ok n_Mod 0 (by decide) q_653 (Or.inl rfl) rfl rfl rfl (Nat.le_of_ble_eq_true rfl) (u_mcode hm.1) d_Mod_kept_2 (fun H locs hd => ?_)
  refine lv_aload_n hx hb d_Mod_kept_5 rfl (lv_at hl 0 rfl) ?_
  refine lv_iload_n hx hb d_Mod_kept_6 rfl (lv_at hl 1 rfl) ?_
  refine zb_i (r := 0) hd (zrunV (n := 1) (rest := []) hC hd (e_mod hm.1) rfl (c_Mod_isKey_r l G ad ow (si Z 20 0 0) hm k 0 h0) q_750 q_752 qp_18 q_6 q_753 rfl rfl rfl (by decide +kernel) ⟨by decide, by decide⟩ rfl hl.1 (Nat.le_of_ble_eq_true rfl) d_Mod_kept_7 ⟨by decide, by decide⟩) (fun H locs hd => ?_)
  refine lv_if_eq (tgt := 22) hx hb d_Mod_kept_10 (by decide) (fun _ => ?_) (fun c => absurd c (by decide))
  refine lv_iconst (v := 0) hx hb d_Mod_kept_22 (by decide) ?_
  exact zfi hC hd hr hlk d_Mod_kept_23 (by unfold m_keptR; (repeat (first | (rw [if_pos]; rotate_left; first | assumption | decide) | (rw [if_neg]; rotate_left; first | assumption | decide))) <;> (try rfl)) rfl
set_option maxHeartbeats 4000000 in
theorem c_Mod_kept_yes (l : Launch) (G : Gt) (ad : Nat → Nat → Nat) (ow : Nat → Nat × Nat) (Z : Zt) (hm : ML Z) (hn : xn Z 20 0 ≤ 40) (k : Nat) (hk : k < xn Z 20 0) (h0 : m_isKey Z (nI k) = 1) : Met l y_Mod_kept w_Mod_kept ({ frames := 1, cells := 0, slots := 0, locals := 21 }) (zPc G ad ow Z [.ref (ad 10 0), .int (nI k)]) (Qd G ad ow (m0 Z) (some (.int (m_keptR Z (nI k))))) 0 0 (zA G) := by
  refine zopen (cc := b_Mod_kept) (maxL := 2) (ret := (some FieldType.int)) (by decide) rfl (Nat.le_of_ble_eq_true rfl) ?_
  intro p e s m below meth c ls hC hr hlk hnm hd hl
  have hC : Cx G p c m s _ "KeyGraphModel" b_Mod_kept 2 := hC
  have hl : lv_has ls 2 [(0, .ref (ad 10 0)), (1, .int (nI k))] := hl
  have hx := hC.1
  have hb := hC.2.1
  have hcl : (nI k).toNatClampNeg = k := nI_clamp (by omega)
  have h0n : ¬ m_isKey Z (nI k) = 0 := by rw [h0]; decide
  refine lv_aload_n hx hb d_Mod_kept_0 rfl (lv_at hl 0 rfl) ?_
  refine lv_iconst (v := 0) hx hb d_Mod_kept_1 (by decide) ?_
  refine zput (Z' := (si Z 20 0 0)) hC hd (e_mod hm.1) rfl i_Mod t_Mod t_Mod_ok n_Mod 0 (by decide) q_653 (Or.inl rfl) rfl rfl rfl (Nat.le_of_ble_eq_true rfl) (u_mcode hm.1) d_Mod_kept_2 (fun H locs hd => ?_)
  refine lv_aload_n hx hb d_Mod_kept_5 rfl (lv_at hl 0 rfl) ?_
  refine lv_iload_n hx hb d_Mod_kept_6 rfl (lv_at hl 1 rfl) ?_
  refine zb_i (r := 1) hd (zrunV (n := 1) (rest := []) hC hd (e_mod hm.1) rfl (c_Mod_isKey_r l G ad ow (si Z 20 0 0) hm (nI k) 1 h0) q_750 q_752 qp_18 q_6 q_753 rfl rfl rfl (by decide +kernel) ⟨by decide, by decide⟩ rfl hl.1 (Nat.le_of_ble_eq_true rfl) d_Mod_kept_7 ⟨by decide, by decide⟩) (fun H locs hd => ?_)
  refine lv_if_eq (tgt := 22) hx hb d_Mod_kept_10 (by decide) (fun c => absurd c (by decide)) (fun _ => ?_)
  refine lv_aload_n hx hb d_Mod_kept_13 rfl (lv_at hl 0 rfl) ?_
  refine zget hC hd (e_mod hm.1) rfl i_Mod 13 (by decide) q_666 (Or.inl rfl) (v := .ref (ad 11 13)) rfl d_Mod_kept_14 ?_
  refine lv_iload_n hx hb d_Mod_kept_17 rfl (lv_at hl 1 rfl) ?_
  refine ziaI (k := k) (f := xi Z 513) hC hd (e_m13 hm.2) (by omega) (by decide) d_Mod_kept_18 ?_
  refine lv_goto (tgt := 23) hx hb d_Mod_kept_19 (by decide) ?_
  exact zfi hC hd hr hlk d_Mod_kept_23 (by unfold m_keptR; rw [hcl]; (repeat (first | (rw [if_pos]; rotate_left; first | assumption | decide) | (rw [if_neg]; rotate_left; first | assumption | decide))) <;> (try rfl)) rfl
theorem c_Mod_kept (l : Launch) (G : Gt) (ad : Nat → Nat → Nat) (ow : Nat → Nat × Nat) (Z : Zt) (hm : ML Z) (hn : xn Z 20 0 ≤ 40) (k : Int32) : Met l y_Mod_kept w_Mod_kept ({ frames := 1, cells := 0, slots := 0, locals := 21 }) (zPc G ad ow Z [.ref (ad 10 0), .int k]) (Qd G ad ow (m0 Z) (some (.int (m_keptR Z k)))) 0 0 (zA G) := by
  rcases m_isKey_cases Z k hn with h0 | ⟨j, hj, rfl, h0⟩
  · exact c_Mod_kept_no l G ad ow Z hm hn  k  h0
  · exact c_Mod_kept_yes l G ad ow Z hm hn  j  hj h0
set_option maxHeartbeats 4000000 in
theorem c_Mod_changed_no (l : Launch) (G : Gt) (ad : Nat → Nat → Nat) (ow : Nat → Nat × Nat) (Z : Zt) (hm : ML Z) (hn : xn Z 20 0 ≤ 40) (k : Int32) (h0 : m_isKey Z k = 0) : Met l y_Mod_changed w_Mod_changed ({ frames := 1, cells := 0, slots := 0, locals := 21 }) (zPc G ad ow Z [.ref (ad 10 0), .int k]) (Qd G ad ow (m0 Z) (some (.int (m_changed Z k)))) 0 0 (zA G) := by
  refine zopen (cc := b_Mod_changed) (maxL := 2) (ret := (some FieldType.int)) (by decide) rfl (Nat.le_of_ble_eq_true rfl) ?_
  intro p e s m below meth c ls hC hr hlk hnm hd hl
  have hC : Cx G p c m s _ "KeyGraphModel" b_Mod_changed 2 := hC
  have hl : lv_has ls 2 [(0, .ref (ad 10 0)), (1, .int k)] := hl
  have hx := hC.1
  have hb := hC.2.1
  refine lv_aload_n hx hb d_Mod_changed_0 rfl (lv_at hl 0 rfl) ?_
  refine lv_iconst (v := 0) hx hb d_Mod_changed_1 (by decide) ?_
  refine zput (Z' := (si Z 20 0 0)) hC hd (e_mod hm.1) rfl i_Mod t_Mod t_Mod_ok n_Mod 0 (by decide) q_653 (Or.inl rfl) rfl rfl rfl (Nat.le_of_ble_eq_true rfl) (u_mcode hm.1) d_Mod_changed_2 (fun H locs hd => ?_)
  refine lv_aload_n hx hb d_Mod_changed_5 rfl (lv_at hl 0 rfl) ?_
  refine lv_iload_n hx hb d_Mod_changed_6 rfl (lv_at hl 1 rfl) ?_
  refine zb_i (r := 0) hd (zrunV (n := 1) (rest := []) hC hd (e_mod hm.1) rfl (c_Mod_isKey_r l G ad ow (si Z 20 0 0) hm k 0 h0) q_750 q_752 qp_18 q_6 q_753 rfl rfl rfl (by decide +kernel) ⟨by decide, by decide⟩ rfl hl.1 (Nat.le_of_ble_eq_true rfl) d_Mod_changed_7 ⟨by decide, by decide⟩) (fun H locs hd => ?_)
  refine lv_if_eq (tgt := 41) hx hb d_Mod_changed_10 (by decide) (fun _ => ?_) (fun c => absurd c (by decide))
  refine lv_iconst (v := (-1)) hx hb d_Mod_changed_41 (by decide) ?_
  exact zfi hC hd hr hlk d_Mod_changed_42 (by unfold m_changed; (repeat (first | (rw [if_pos]; rotate_left; first | assumption | decide) | (rw [if_neg]; rotate_left; first | assumption | decide))) <;> (try rfl)) rfl
set_option maxHeartbeats 4000000 in
theorem c_Mod_changed_yes (l : Launch) (G : Gt) (ad : Nat → Nat → Nat) (ow : Nat → Nat × Nat) (Z : Zt) (hm : ML Z) (hn : xn Z 20 0 ≤ 40) (k : Nat) (hk : k < xn Z 20 0) (h0 : m_isKey Z (nI k) = 1) : Met l y_Mod_changed w_Mod_changed ({ frames := 1, cells := 0, slots := 0, locals := 21 }) (zPc G ad ow Z [.ref (ad 10 0), .int (nI k)]) (Qd G ad ow (m0 Z) (some (.int (m_changed Z (nI k))))) 0 0 (zA G) := by
  refine zopen (cc := b_Mod_changed) (maxL := 2) (ret := (some FieldType.int)) (by decide) rfl (Nat.le_of_ble_eq_true rfl) ?_
  intro p e s m below meth c ls hC hr hlk hnm hd hl
  have hC : Cx G p c m s _ "KeyGraphModel" b_Mod_changed 2 := hC
  have hl : lv_has ls 2 [(0, .ref (ad 10 0)), (1, .int (nI k))] := hl
  have hx := hC.1
  have hb := hC.2.1
  have hcl : (nI k).toNatClampNeg = k := nI_clamp (by omega)
  have h0n : ¬ m_isKey Z (nI k) = 0 := by rw [h0]; decide
  refine lv_aload_n hx hb d_Mod_changed_0 rfl (lv_at hl 0 rfl) ?_
  refine lv_iconst (v := 0) hx hb d_Mod_changed_1 (by decide) ?_
  refine zput (Z' := (si Z 20 0 0)) hC hd (e_mod hm.1) rfl i_Mod t_Mod t_Mod_ok n_Mod 0 (by decide) q_653 (Or.inl rfl) rfl rfl rfl (Nat.le_of_ble_eq_true rfl) (u_mcode hm.1) d_Mod_changed_2 (fun H locs hd => ?_)
  refine lv_aload_n hx hb d_Mod_changed_5 rfl (lv_at hl 0 rfl) ?_
  refine lv_iload_n hx hb d_Mod_changed_6 rfl (lv_at hl 1 rfl) ?_
  refine zb_i (r := 1) hd (zrunV (n := 1) (rest := []) hC hd (e_mod hm.1) rfl (c_Mod_isKey_r l G ad ow (si Z 20 0 0) hm (nI k) 1 h0) q_750 q_752 qp_18 q_6 q_753 rfl rfl rfl (by decide +kernel) ⟨by decide, by decide⟩ rfl hl.1 (Nat.le_of_ble_eq_true rfl) d_Mod_changed_7 ⟨by decide, by decide⟩) (fun H locs hd => ?_)
  refine lv_if_eq (tgt := 41) hx hb d_Mod_changed_10 (by decide) (fun c => absurd c (by decide)) (fun _ => ?_)
  refine lv_aload_n hx hb d_Mod_changed_13 rfl (lv_at hl 0 rfl) ?_
  refine zget hC hd (e_mod hm.1) rfl i_Mod 3 (by decide) q_656 (Or.inl rfl) (v := .ref (ad 11 3)) rfl d_Mod_changed_14 ?_
  refine lv_iload_n hx hb d_Mod_changed_17 rfl (lv_at hl 1 rfl) ?_
  refine ziaI (k := k) (f := xi Z 503) hC hd (e_m3 hm.2) (by omega) (by decide) d_Mod_changed_18 ?_
  refine lv_iconst (v := (-1)) hx hb d_Mod_changed_19 (by decide) ?_
  refine lv_icmp_eq (tgt := 32) hx hb d_Mod_changed_20 (by decide) (fun c20 => ?_) (fun c20 => ?_)
  · refine lv_aload_n hx hb d_Mod_changed_32 rfl (lv_at hl 0 rfl) ?_
    refine zget hC hd (e_mod hm.1) rfl i_Mod 8 (by decide) q_661 (Or.inl rfl) (v := .ref (ad 11 8)) rfl d_Mod_changed_33 ?_
    refine lv_iload_n hx hb d_Mod_changed_36 rfl (lv_at hl 1 rfl) ?_
    refine ziaI (k := k) (f := xi Z 508) hC hd (e_m8 hm.2) (by omega) (by decide) d_Mod_changed_37 ?_
    refine lv_goto (tgt := 42) hx hb d_Mod_changed_38 (by decide) ?_
    exact zfi hC hd hr hlk d_Mod_changed_42 (by unfold m_changed; rw [hcl]; (repeat (first | (rw [if_pos]; rotate_left; first | assumption | decide) | (rw [if_neg]; rotate_left; first | assumption | decide))) <;> (try rfl)) rfl
  · refine lv_aload_n hx hb d_Mod_changed_23 rfl (lv_at hl 0 rfl) ?_
    refine zget hC hd (e_mod hm.1) rfl i_Mod 16 (by decide) q_669 (Or.inl rfl) (v := .ref (ad 11 16)) rfl d_Mod_changed_24 ?_
    refine lv_iload_n hx hb d_Mod_changed_27 rfl (lv_at hl 1 rfl) ?_
    refine zzaI (k := k) (f := xi Z 516) hC hd (e_m16 hm.2) (by omega) (by decide) d_Mod_changed_28 ?_
    refine lv_if_eq (tgt := 41) hx hb d_Mod_changed_29 (by decide) (fun c29 => ?_) (fun c29 => ?_)
    · refine lv_iconst (v := (-1)) hx hb d_Mod_changed_41 (by decide) ?_
      exact zfi hC hd hr hlk d_Mod_changed_42 (by unfold m_changed; rw [hcl]; (repeat (first | (rw [if_pos]; rotate_left; first | assumption | decide) | (rw [if_neg]; rotate_left; first | assumption | decide))) <;> (try rfl)) rfl
    · refine lv_aload_n hx hb d_Mod_changed_32 rfl (lv_at hl 0 rfl) ?_
      refine zget hC hd (e_mod hm.1) rfl i_Mod 8 (by decide) q_661 (Or.inl rfl) (v := .ref (ad 11 8)) rfl d_Mod_changed_33 ?_
      refine lv_iload_n hx hb d_Mod_changed_36 rfl (lv_at hl 1 rfl) ?_
      refine ziaI (k := k) (f := xi Z 508) hC hd (e_m8 hm.2) (by omega) (by decide) d_Mod_changed_37 ?_
      refine lv_goto (tgt := 42) hx hb d_Mod_changed_38 (by decide) ?_
      exact zfi hC hd hr hlk d_Mod_changed_42 (by unfold m_changed; rw [hcl]; (repeat (first | (rw [if_pos]; rotate_left; first | assumption | decide) | (rw [if_neg]; rotate_left; first | assumption | decide))) <;> (try rfl)) rfl
theorem c_Mod_changed (l : Launch) (G : Gt) (ad : Nat → Nat → Nat) (ow : Nat → Nat × Nat) (Z : Zt) (hm : ML Z) (hn : xn Z 20 0 ≤ 40) (k : Int32) : Met l y_Mod_changed w_Mod_changed ({ frames := 1, cells := 0, slots := 0, locals := 21 }) (zPc G ad ow Z [.ref (ad 10 0), .int k]) (Qd G ad ow (m0 Z) (some (.int (m_changed Z k)))) 0 0 (zA G) := by
  rcases m_isKey_cases Z k hn with h0 | ⟨j, hj, rfl, h0⟩
  · exact c_Mod_changed_no l G ad ow Z hm hn  k  h0
  · exact c_Mod_changed_yes l G ad ow Z hm hn  j  hj h0
set_option maxHeartbeats 4000000 in
theorem c_Mod_asked_no (l : Launch) (G : Gt) (ad : Nat → Nat → Nat) (ow : Nat → Nat × Nat) (Z : Zt) (hm : ML Z) (hn : xn Z 20 0 ≤ 40) (hI : MI Z) (k : Int32) (i : Int32) (h0 : m_isKey Z k = 0) : Met l y_Mod_asked w_Mod_asked ({ frames := 1, cells := 0, slots := 0, locals := 21 }) (zPc G ad ow Z [.ref (ad 10 0), .int k, .int i]) (Qd G ad ow (m0 Z) (some (.int (m_asked Z k i)))) 0 0 (zA G) := by
  refine zopen (cc := b_Mod_asked) (maxL := 3) (ret := (some FieldType.int)) (by decide) rfl (Nat.le_of_ble_eq_true rfl) ?_
  intro p e s m below meth c ls hC hr hlk hnm hd hl
  have hC : Cx G p c m s _ "KeyGraphModel" b_Mod_asked 3 := hC
  have hl : lv_has ls 3 [(0, .ref (ad 10 0)), (1, .int k), (2, .int i)] := hl
  have hx := hC.1
  have hb := hC.2.1
  refine lv_aload_n hx hb d_Mod_asked_0 rfl (lv_at hl 0 rfl) ?_
  refine lv_iconst (v := 0) hx hb d_Mod_asked_1 (by decide) ?_
  refine zput (Z' := (si Z 20 0 0)) hC hd (e_mod hm.1) rfl i_Mod t_Mod t_Mod_ok n_Mod 0 (by decide) q_653 (Or.inl rfl) rfl rfl rfl (Nat.le_of_ble_eq_true rfl) (u_mcode hm.1) d_Mod_asked_2 (fun H locs hd => ?_)
  refine lv_aload_n hx hb d_Mod_asked_5 rfl (lv_at hl 0 rfl) ?_
  refine lv_iload_n hx hb d_Mod_asked_6 rfl (lv_at hl 1 rfl) ?_
  refine zb_i (r := 0) hd (zrunV (n := 1) (rest := []) hC hd (e_mod hm.1) rfl (c_Mod_isKey_r l G ad ow (si Z 20 0 0) hm k 0 h0) q_750 q_752 qp_18 q_6 q_753 rfl rfl rfl (by decide +kernel) ⟨by decide, by decide⟩ rfl hl.1 (Nat.le_of_ble_eq_true rfl) d_Mod_asked_7 ⟨by decide, by decide⟩) (fun H locs hd => ?_)
  refine lv_if_eq (tgt := 50) hx hb d_Mod_asked_10 (by decide) (fun _ => ?_) (fun c => absurd c (by decide))
  refine lv_iconst (v := (-1)) hx hb d_Mod_asked_50 (by decide) ?_
  exact zfi hC hd hr hlk d_Mod_asked_51 (by unfold m_asked; (repeat (first | (rw [if_pos]; rotate_left; first | assumption | decide) | (rw [if_neg]; rotate_left; first | assumption | decide))) <;> (try rfl)) rfl
set_option maxHeartbeats 4000000 in
theorem c_Mod_asked_yes (l : Launch) (G : Gt) (ad : Nat → Nat → Nat) (ow : Nat → Nat × Nat) (Z : Zt) (hm : ML Z) (hn : xn Z 20 0 ≤ 40) (hI : MI Z) (k : Nat) (i : Int32) (hk : k < xn Z 20 0) (h0 : m_isKey Z (nI k) = 1) : Met l y_Mod_asked w_Mod_asked ({ frames := 1, cells := 0, slots := 0, locals := 21 }) (zPc G ad ow Z [.ref (ad 10 0), .int (nI k), .int i]) (Qd G ad ow (m0 Z) (some (.int (m_asked Z (nI k) i)))) 0 0 (zA G) := by
  refine zopen (cc := b_Mod_asked) (maxL := 3) (ret := (some FieldType.int)) (by decide) rfl (Nat.le_of_ble_eq_true rfl) ?_
  intro p e s m below meth c ls hC hr hlk hnm hd hl
  have hC : Cx G p c m s _ "KeyGraphModel" b_Mod_asked 3 := hC
  have hl : lv_has ls 3 [(0, .ref (ad 10 0)), (1, .int (nI k)), (2, .int i)] := hl
  have hx := hC.1
  have hb := hC.2.1
  have hcl : (nI k).toNatClampNeg = k := nI_clamp (by omega)
  have h0n : ¬ m_isKey Z (nI k) = 0 := by rw [h0]; decide
  have h8 := hI.2.2.2.1 k
  refine lv_aload_n hx hb d_Mod_asked_0 rfl (lv_at hl 0 rfl) ?_
  refine lv_iconst (v := 0) hx hb d_Mod_asked_1 (by decide) ?_
  refine zput (Z' := (si Z 20 0 0)) hC hd (e_mod hm.1) rfl i_Mod t_Mod t_Mod_ok n_Mod 0 (by decide) q_653 (Or.inl rfl) rfl rfl rfl (Nat.le_of_ble_eq_true rfl) (u_mcode hm.1) d_Mod_asked_2 (fun H locs hd => ?_)
  refine lv_aload_n hx hb d_Mod_asked_5 rfl (lv_at hl 0 rfl) ?_
  refine lv_iload_n hx hb d_Mod_asked_6 rfl (lv_at hl 1 rfl) ?_
  refine zb_i (r := 1) hd (zrunV (n := 1) (rest := []) hC hd (e_mod hm.1) rfl (c_Mod_isKey_r l G ad ow (si Z 20 0 0) hm (nI k) 1 h0) q_750 q_752 qp_18 q_6 q_753 rfl rfl rfl (by decide +kernel) ⟨by decide, by decide⟩ rfl hl.1 (Nat.le_of_ble_eq_true rfl) d_Mod_asked_7 ⟨by decide, by decide⟩) (fun H locs hd => ?_)
  refine lv_if_eq (tgt := 50) hx hb d_Mod_asked_10 (by decide) (fun c => absurd c (by decide)) (fun _ => ?_)
  refine lv_aload_n hx hb d_Mod_asked_13 rfl (lv_at hl 0 rfl) ?_
  refine zget hC hd (e_mod hm.1) rfl i_Mod 16 (by decide) q_669 (Or.inl rfl) (v := .ref (ad 11 16)) rfl d_Mod_asked_14 ?_
  refine lv_iload_n hx hb d_Mod_asked_17 rfl (lv_at hl 1 rfl) ?_
  refine zzaI (k := k) (f := xi Z 516) hC hd (e_m16 hm.2) (by omega) (by decide) d_Mod_asked_18 ?_
  refine lv_if_eq (tgt := 50) hx hb d_Mod_asked_19 (by decide) (fun c19 => ?_) (fun c19 => ?_)
  · refine lv_iconst (v := (-1)) hx hb d_Mod_asked_50 (by decide) ?_
    exact zfi hC hd hr hlk d_Mod_asked_51 (by unfold m_asked; rw [hcl]; (repeat (first | (rw [if_pos]; rotate_left; first | assumption | decide) | (rw [if_neg]; rotate_left; first | assumption | decide))) <;> (try rfl)) rfl
  · refine lv_iload_n hx hb d_Mod_asked_22 rfl (lv_at hl 2 rfl) ?_
    refine lv_if_lt (tgt := 50) hx hb d_Mod_asked_23 (by decide) (fun c23 => ?_) (fun c23 => ?_)
    · refine lv_iconst (v := (-1)) hx hb d_Mod_asked_50 (by decide) ?_
      exact zfi hC hd hr hlk d_Mod_asked_51 (by unfold m_asked; rw [hcl]; (repeat (first | (rw [if_pos]; rotate_left; first | assumption | decide) | (rw [if_neg]; rotate_left; first | assumption | decide))) <;> (try rfl)) rfl
    · obtain ⟨i1, hi1, rfl⟩ := nI_of c23
      have hci : (nI i1).toNatClampNeg = i1 := nI_clamp hi1
      refine lv_iload_n hx hb d_Mod_asked_26 rfl (lv_at hl 2 rfl) ?_
      refine lv_aload_n hx hb d_Mod_asked_27 rfl (lv_at hl 0 rfl) ?_
      refine zget hC hd (e_mod hm.1) rfl i_Mod 10 (by decide) q_663 (Or.inl rfl) (v := .ref (ad 11 10)) rfl d_Mod_asked_28 ?_
      refine lv_iload_n hx hb d_Mod_asked_31 rfl (lv_at hl 1 rfl) ?_
      refine ziaN (k := k) (f := xn Z 510) hC hd (e_m10 hm.2) (by omega) (by decide) d_Mod_asked_32 ?_
      refine zc_ge (x := i1) (y := xn Z 510 k) (tgt := 50) (by omega) (by omega) hx hb d_Mod_asked_33 (by decide) (fun c33 => ?_) (fun c33 => ?_)
      · have c33' := Nat.not_lt.mpr c33
        have c33b :  nI (xn Z 510 k) ≤ nI i1 := nI_le c33 (by omega)
        refine lv_iconst (v := (-1)) hx hb d_Mod_asked_50 (by decide) ?_
        exact zfi hC hd hr hlk d_Mod_asked_51 (by unfold m_asked; rw [hcl, hci]; (repeat (first | (rw [if_pos]; rotate_left; first | assumption | decide) | (rw [if_neg]; rotate_left; first | assumption | decide))) <;> (try rfl)) rfl
      · have c33' := Nat.not_le.mpr c33
        have c33b : ¬ nI (xn Z 510 k) ≤ nI i1 := fun q => absurd ((nI_leI (by omega) (by omega)).mp q) (by omega)
        refine lv_aload_n hx hb d_Mod_asked_36 rfl (lv_at hl 0 rfl) ?_
        refine zget hC hd (e_mod hm.1) rfl i_Mod 11 (by decide) q_664 (Or.inl rfl) (v := .ref (ad 11 11)) rfl d_Mod_asked_37 ?_
        refine lv_bipush (v := 8) hx hb d_Mod_asked_40 (by decide) ?_
        refine lv_iload_n hx hb d_Mod_asked_42 rfl (lv_at hl 1 rfl) ?_
        refine zmulN (x := 8) (y := k) hx hb d_Mod_asked_43 ?_
        refine lv_iload_n hx hb d_Mod_asked_44 rfl (lv_at hl 2 rfl) ?_
        refine zaddN (x := 8 * k) (y := i1) hx hb d_Mod_asked_45 ?_
        refine ziaN (k := (8 * k) + i1) (f := xn Z 511) hC hd (e_m11 hm.2) (by omega) (by decide) d_Mod_asked_46 ?_
        refine lv_goto (tgt := 51) hx hb d_Mod_asked_47 (by decide) ?_
        exact zfi hC hd hr hlk d_Mod_asked_51 (by unfold m_asked; rw [hcl, hci]; (repeat (first | (rw [if_pos]; rotate_left; first | assumption | decide) | (rw [if_neg]; rotate_left; first | assumption | decide))) <;> (try rfl)) rfl
theorem c_Mod_asked (l : Launch) (G : Gt) (ad : Nat → Nat → Nat) (ow : Nat → Nat × Nat) (Z : Zt) (hm : ML Z) (hn : xn Z 20 0 ≤ 40) (hI : MI Z) (k : Int32) (i : Int32) : Met l y_Mod_asked w_Mod_asked ({ frames := 1, cells := 0, slots := 0, locals := 21 }) (zPc G ad ow Z [.ref (ad 10 0), .int k, .int i]) (Qd G ad ow (m0 Z) (some (.int (m_asked Z k i)))) 0 0 (zA G) := by
  rcases m_isKey_cases Z k hn with h0 | ⟨j, hj, rfl, h0⟩
  · exact c_Mod_asked_no l G ad ow Z hm hn hI k i h0
  · exact c_Mod_asked_yes l G ad ow Z hm hn hI j i hj h0
set_option maxHeartbeats 4000000 in
theorem c_Mod_drop_no (l : Launch) (G : Gt) (ad : Nat → Nat → Nat) (ow : Nat → Nat × Nat) (Z : Zt) (hm : ML Z) (hn : xn Z 20 0 ≤ 40) (k : Int32) (h0 : m_isKey Z k = 0) : Met l y_Mod_drop w_Mod_drop ({ frames := 1, cells := 0, slots := 0, locals := 22 }) (zPc G ad ow Z [.ref (ad 10 0), .int k]) (Qd G ad ow ((m_drop Z k).1) (some (.int ((m_drop Z k).2)))) 0 0 (zA G) := by
  refine zopen (cc := b_Mod_drop) (maxL := 2) (ret := (some FieldType.boolean)) (by decide) rfl (Nat.le_of_ble_eq_true rfl) ?_
  intro p e s m below meth c ls hC hr hlk hnm hd hl
  have hC : Cx G p c m s _ "KeyGraphModel" b_Mod_drop 2 := hC
  have hl : lv_has ls 2 [(0, .ref (ad 10 0)), (1, .int k)] := hl
  have hx := hC.1
  have hb := hC.2.1
  refine lv_aload_n hx hb d_Mod_drop_0 rfl (lv_at hl 0 rfl) ?_
  refine lv_iconst (v := 0) hx hb d_Mod_drop_1 (by decide) ?_
  refine zput (Z' := (si Z 20 0 0)) hC hd (e_mod hm.1) rfl i_Mod t_Mod t_Mod_ok n_Mod 0 (by decide) q_653 (Or.inl rfl) rfl rfl rfl (Nat.le_of_ble_eq_true rfl) (u_mcode hm.1) d_Mod_drop_2 (fun H locs hd => ?_)
  refine lv_aload_n hx hb d_Mod_drop_5 rfl (lv_at hl 0 rfl) ?_
  refine lv_iload_n hx hb d_Mod_drop_6 rfl (lv_at hl 1 rfl) ?_
  refine zb_i (r := 0) hd (zrunV (n := 1) (rest := []) hC hd (e_mod hm.1) rfl (c_Mod_isKey_r l G ad ow (si Z 20 0 0) hm k 0 h0) q_750 q_752 qp_18 q_6 q_753 rfl rfl rfl (by decide +kernel) ⟨by decide, by decide⟩ rfl hl.1 (Nat.le_of_ble_eq_true rfl) d_Mod_drop_7 ⟨by decide, by decide⟩) (fun H locs hd => ?_)
  refine lv_if_eq (tgt := 22) hx hb d_Mod_drop_10 (by decide) (fun _ => ?_) (fun c => absurd c (by decide))
  refine lv_iconst (v := 0) hx hb d_Mod_drop_22 (by decide) ?_
  exact zfz hC hd hr hlk d_Mod_drop_23 (by decide) (by unfold m_drop; (repeat (first | (rw [if_pos]; rotate_left; first | assumption | decide) | (rw [if_neg]; rotate_left; first | assumption | decide))) <;> (try rfl)) (by unfold m_drop; (repeat (first | (rw [if_pos]; rotate_left; first | assumption | decide) | (rw [if_neg]; rotate_left; first | assumption | decide))) <;> (try rfl))
set_option maxHeartbeats 4000000 in
theorem c_Mod_drop_yes (l : Launch) (G : Gt) (ad : Nat → Nat → Nat) (ow : Nat → Nat × Nat) (Z : Zt) (hm : ML Z) (hn : xn Z 20 0 ≤ 40) (k : Nat) (hk : k < xn Z 20 0) (h0 : m_isKey Z (nI k) = 1) : Met l y_Mod_drop w_Mod_drop ({ frames := 1, cells := 0, slots := 0, locals := 22 }) (zPc G ad ow Z [.ref (ad 10 0), .int (nI k)]) (Qd G ad ow ((m_drop Z (nI k)).1) (some (.int ((m_drop Z (nI k)).2)))) 0 0 (zA G) := by
  refine zopen (cc := b_Mod_drop) (maxL := 2) (ret := (some FieldType.boolean)) (by decide) rfl (Nat.le_of_ble_eq_true rfl) ?_
  intro p e s m below meth c ls hC hr hlk hnm hd hl
  have hC : Cx G p c m s _ "KeyGraphModel" b_Mod_drop 2 := hC
  have hl : lv_has ls 2 [(0, .ref (ad 10 0)), (1, .int (nI k))] := hl
  have hx := hC.1
  have hb := hC.2.1
  have hcl : (nI k).toNatClampNeg = k := nI_clamp (by omega)
  have h0n : ¬ m_isKey Z (nI k) = 0 := by rw [h0]; decide
  refine lv_aload_n hx hb d_Mod_drop_0 rfl (lv_at hl 0 rfl) ?_
  refine lv_iconst (v := 0) hx hb d_Mod_drop_1 (by decide) ?_
  refine zput (Z' := (si Z 20 0 0)) hC hd (e_mod hm.1) rfl i_Mod t_Mod t_Mod_ok n_Mod 0 (by decide) q_653 (Or.inl rfl) rfl rfl rfl (Nat.le_of_ble_eq_true rfl) (u_mcode hm.1) d_Mod_drop_2 (fun H locs hd => ?_)
  refine lv_aload_n hx hb d_Mod_drop_5 rfl (lv_at hl 0 rfl) ?_
  refine lv_iload_n hx hb d_Mod_drop_6 rfl (lv_at hl 1 rfl) ?_
  refine zb_i (r := 1) hd (zrunV (n := 1) (rest := []) hC hd (e_mod hm.1) rfl (c_Mod_isKey_r l G ad ow (si Z 20 0 0) hm (nI k) 1 h0) q_750 q_752 qp_18 q_6 q_753 rfl rfl rfl (by decide +kernel) ⟨by decide, by decide⟩ rfl hl.1 (Nat.le_of_ble_eq_true rfl) d_Mod_drop_7 ⟨by decide, by decide⟩) (fun H locs hd => ?_)
  refine lv_if_eq (tgt := 22) hx hb d_Mod_drop_10 (by decide) (fun c => absurd c (by decide)) (fun _ => ?_)
  refine lv_aload_n hx hb d_Mod_drop_13 rfl (lv_at hl 0 rfl) ?_
  refine zget hC hd (e_mod hm.1) rfl i_Mod 16 (by decide) q_669 (Or.inl rfl) (v := .ref (ad 11 16)) rfl d_Mod_drop_14 ?_
  refine lv_iload_n hx hb d_Mod_drop_17 rfl (lv_at hl 1 rfl) ?_
  refine zzaI (k := k) (f := xi Z 516) hC hd (e_m16 hm.2) (by omega) (by decide) d_Mod_drop_18 ?_
  refine lv_if_ne (tgt := 24) hx hb d_Mod_drop_19 (by decide) (fun c19 => ?_) (fun c19 => ?_)
  · refine lv_aload_n hx hb d_Mod_drop_24 rfl (lv_at hl 0 rfl) ?_
    refine zget hC hd (e_mod hm.1) rfl i_Mod 16 (by decide) q_669 (Or.inl rfl) (v := .ref (ad 11 16)) rfl d_Mod_drop_25 ?_
    refine lv_iload_n hx hb d_Mod_drop_28 rfl (lv_at hl 1 rfl) ?_
    refine lv_iconst (v := 0) hx hb d_Mod_drop_29 (by decide) ?_
    refine zzaS (y := 0) (k := k) (Z' := (si (si Z 20 0 0) 516 k 0)) hC hd (by decide) (e_m16 hm.2) (by omega) (by decide) (u_m16 hm.2) d_Mod_drop_30 (fun H locs hd => ?_)
    refine lv_aload_n hx hb d_Mod_drop_31 rfl (lv_at hl 0 rfl) ?_
    refine zb_i (r := (nI (m_emptyN (si (si Z 20 0 0) 516 k 0)))) hd (zrunV (n := 0) (rest := []) hC hd (e_mod hm.1) rfl (c_Mod_empty l G ad ow (si (si Z 20 0 0) 516 k 0) hm) q_774 q_776 qp_24 q_6 q_777 rfl rfl rfl (by decide +kernel) ⟨by decide, by decide⟩ rfl hl.1 (Nat.le_of_ble_eq_true rfl) d_Mod_drop_32 ⟨by decide, by decide⟩) (fun H locs hd => ?_)
    refine lv_pop hx hb d_Mod_drop_35 rfl ?_
    refine lv_iconst (v := 1) hx hb d_Mod_drop_36 (by decide) ?_
    exact zfz hC hd hr hlk d_Mod_drop_37 (by decide) (by unfold m_drop; rw [hcl]; (repeat (first | (rw [if_pos]; rotate_left; first | assumption | decide) | (rw [if_neg]; rotate_left; first | assumption | decide))) <;> (try rfl)) (by unfold m_drop; rw [hcl]; (repeat (first | (rw [if_pos]; rotate_left; first | assumption | decide) | (rw [if_neg]; rotate_left; first | assumption | decide))) <;> (try rfl))
  · refine lv_iconst (v := 0) hx hb d_Mod_drop_22 (by decide) ?_
    exact zfz hC hd hr hlk d_Mod_drop_23 (by decide) (by unfold m_drop; rw [hcl]; (repeat (first | (rw [if_pos]; rotate_left; first | assumption | decide) | (rw [if_neg]; rotate_left; first | assumption | decide))) <;> (try rfl)) (by unfold m_drop; rw [hcl]; (repeat (first | (rw [if_pos]; rotate_left; first | assumption | decide) | (rw [if_neg]; rotate_left; first | assumption | decide))) <;> (try rfl))
theorem c_Mod_drop (l : Launch) (G : Gt) (ad : Nat → Nat → Nat) (ow : Nat → Nat × Nat) (Z : Zt) (hm : ML Z) (hn : xn Z 20 0 ≤ 40) (k : Int32) : Met l y_Mod_drop w_Mod_drop ({ frames := 1, cells := 0, slots := 0, locals := 22 }) (zPc G ad ow Z [.ref (ad 10 0), .int k]) (Qd G ad ow ((m_drop Z k).1) (some (.int ((m_drop Z k).2)))) 0 0 (zA G) := by
  rcases m_isKey_cases Z k hn with h0 | ⟨j, hj, rfl, h0⟩
  · exact c_Mod_drop_no l G ad ow Z hm hn  k  h0
  · exact c_Mod_drop_yes l G ad ow Z hm hn  j  hj h0
set_option maxHeartbeats 4000000 in
theorem c_Mod_state_no (l : Launch) (G : Gt) (ad : Nat → Nat → Nat) (ow : Nat → Nat × Nat) (Z : Zt) (hm : ML Z) (hn : xn Z 20 0 ≤ 40) (k : Int32) (h0 : m_isKey Z k = 0) : Met l y_Mod_state w_Mod_state ({ frames := 1, cells := 0, slots := 0, locals := 21 }) (zPc G ad ow Z [.ref (ad 10 0), .int k]) (Qd G ad ow (m0 Z) (some (.int (m_state Z k)))) 0 0 (zA G) := by
  refine zopen (cc := b_Mod_state) (maxL := 2) (ret := (some FieldType.int)) (by decide) rfl (Nat.le_of_ble_eq_true rfl) ?_
  intro p e s m below meth c ls hC hr hlk hnm hd hl
  have hC : Cx G p c m s _ "KeyGraphModel" b_Mod_state 2 := hC
  have hl : lv_has ls 2 [(0, .ref (ad 10 0)), (1, .int k)] := hl
  have hx := hC.1
  have hb := hC.2.1
  refine lv_aload_n hx hb d_Mod_state_0 rfl (lv_at hl 0 rfl) ?_
  refine lv_iconst (v := 0) hx hb d_Mod_state_1 (by decide) ?_
  refine zput (Z' := (si Z 20 0 0)) hC hd (e_mod hm.1) rfl i_Mod t_Mod t_Mod_ok n_Mod 0 (by decide) q_653 (Or.inl rfl) rfl rfl rfl (Nat.le_of_ble_eq_true rfl) (u_mcode hm.1) d_Mod_state_2 (fun H locs hd => ?_)
  refine lv_aload_n hx hb d_Mod_state_5 rfl (lv_at hl 0 rfl) ?_
  refine lv_iload_n hx hb d_Mod_state_6 rfl (lv_at hl 1 rfl) ?_
  refine zb_i (r := 0) hd (zrunV (n := 1) (rest := []) hC hd (e_mod hm.1) rfl (c_Mod_isKey_r l G ad ow (si Z 20 0 0) hm k 0 h0) q_750 q_752 qp_18 q_6 q_753 rfl rfl rfl (by decide +kernel) ⟨by decide, by decide⟩ rfl hl.1 (Nat.le_of_ble_eq_true rfl) d_Mod_state_7 ⟨by decide, by decide⟩) (fun H locs hd => ?_)
  refine lv_if_eq (tgt := 30) hx hb d_Mod_state_10 (by decide) (fun _ => ?_) (fun c => absurd c (by decide))
  refine lv_iconst (v := 0) hx hb d_Mod_state_30 (by decide) ?_
  exact zfi hC hd hr hlk d_Mod_state_31 (by unfold m_state; (repeat (first | (rw [if_pos]; rotate_left; first | assumption | decide) | (rw [if_neg]; rotate_left; first | assumption | decide))) <;> (try rfl)) rfl
set_option maxHeartbeats 4000000 in
theorem c_Mod_state_yes (l : Launch) (G : Gt) (ad : Nat → Nat → Nat) (ow : Nat → Nat × Nat) (Z : Zt) (hm : ML Z) (hn : xn Z 20 0 ≤ 40) (k : Nat) (hk : k < xn Z 20 0) (h0 : m_isKey Z (nI k) = 1) : Met l y_Mod_state w_Mod_state ({ frames := 1, cells := 0, slots := 0, locals := 21 }) (zPc G ad ow Z [.ref (ad 10 0), .int (nI k)]) (Qd G ad ow (m0 Z) (some (.int (m_state Z (nI k))))) 0 0 (zA G) := by
  refine zopen (cc := b_Mod_state) (maxL := 2) (ret := (some FieldType.int)) (by decide) rfl (Nat.le_of_ble_eq_true rfl) ?_
  intro p e s m below meth c ls hC hr hlk hnm hd hl
  have hC : Cx G p c m s _ "KeyGraphModel" b_Mod_state 2 := hC
  have hl : lv_has ls 2 [(0, .ref (ad 10 0)), (1, .int (nI k))] := hl
  have hx := hC.1
  have hb := hC.2.1
  have hcl : (nI k).toNatClampNeg = k := nI_clamp (by omega)
  have h0n : ¬ m_isKey Z (nI k) = 0 := by rw [h0]; decide
  refine lv_aload_n hx hb d_Mod_state_0 rfl (lv_at hl 0 rfl) ?_
  refine lv_iconst (v := 0) hx hb d_Mod_state_1 (by decide) ?_
  refine zput (Z' := (si Z 20 0 0)) hC hd (e_mod hm.1) rfl i_Mod t_Mod t_Mod_ok n_Mod 0 (by decide) q_653 (Or.inl rfl) rfl rfl rfl (Nat.le_of_ble_eq_true rfl) (u_mcode hm.1) d_Mod_state_2 (fun H locs hd => ?_)
  refine lv_aload_n hx hb d_Mod_state_5 rfl (lv_at hl 0 rfl) ?_
  refine lv_iload_n hx hb d_Mod_state_6 rfl (lv_at hl 1 rfl) ?_
  refine zb_i (r := 1) hd (zrunV (n := 1) (rest := []) hC hd (e_mod hm.1) rfl (c_Mod_isKey_r l G ad ow (si Z 20 0 0) hm (nI k) 1 h0) q_750 q_752 qp_18 q_6 q_753 rfl rfl rfl (by decide +kernel) ⟨by decide, by decide⟩ rfl hl.1 (Nat.le_of_ble_eq_true rfl) d_Mod_state_7 ⟨by decide, by decide⟩) (fun H locs hd => ?_)
  refine lv_if_eq (tgt := 30) hx hb d_Mod_state_10 (by decide) (fun c => absurd c (by decide)) (fun _ => ?_)
  refine lv_aload_n hx hb d_Mod_state_13 rfl (lv_at hl 0 rfl) ?_
  refine lv_iload_n hx hb d_Mod_state_14 rfl (lv_at hl 1 rfl) ?_
  refine zb_i (r := (m_isSure Z k)) hd (zrunV (n := 1) (rest := []) hC hd (e_mod hm.1) rfl (c_Mod_isSure l G ad ow (si Z 20 0 0) hm k (by omega) (m_isSure Z k) rfl) q_801 q_803 qp_26 q_6 q_804 rfl rfl rfl (by decide +kernel) ⟨by decide, by decide⟩ rfl hl.1 (Nat.le_of_ble_eq_true rfl) d_Mod_state_15 ⟨by decide, by decide⟩) (fun H locs hd => ?_)
  refine lv_if_eq (tgt := 30) hx hb d_Mod_state_18 (by decide) (fun c18 => ?_) (fun c18 => ?_)
  · refine lv_iconst (v := 0) hx hb d_Mod_state_30 (by decide) ?_
    exact zfi hC hd hr hlk d_Mod_state_31 (by unfold m_state; rw [hcl]; (repeat (first | (rw [if_pos]; rotate_left; first | assumption | decide) | (rw [if_neg]; rotate_left; first | assumption | decide))) <;> (try rfl)) rfl
  · refine lv_aload_n hx hb d_Mod_state_21 rfl (lv_at hl 0 rfl) ?_
    refine zget hC hd (e_mod hm.1) rfl i_Mod 6 (by decide) q_659 (Or.inl rfl) (v := .ref (ad 11 6)) rfl d_Mod_state_22 ?_
    refine lv_iload_n hx hb d_Mod_state_25 rfl (lv_at hl 1 rfl) ?_
    refine ziaI (k := k) (f := xi Z 506) hC hd (e_m6 hm.2) (by omega) (by decide) d_Mod_state_26 ?_
    refine lv_goto (tgt := 31) hx hb d_Mod_state_27 (by decide) ?_
    exact zfi hC hd hr hlk d_Mod_state_31 (by unfold m_state; rw [hcl]; (repeat (first | (rw [if_pos]; rotate_left; first | assumption | decide) | (rw [if_neg]; rotate_left; first | assumption | decide))) <;> (try rfl)) rfl
theorem c_Mod_state (l : Launch) (G : Gt) (ad : Nat → Nat → Nat) (ow : Nat → Nat × Nat) (Z : Zt) (hm : ML Z) (hn : xn Z 20 0 ≤ 40) (k : Int32) : Met l y_Mod_state w_Mod_state ({ frames := 1, cells := 0, slots := 0, locals := 21 }) (zPc G ad ow Z [.ref (ad 10 0), .int k]) (Qd G ad ow (m0 Z) (some (.int (m_state Z k)))) 0 0 (zA G) := by
  rcases m_isKey_cases Z k hn with h0 | ⟨j, hj, rfl, h0⟩
  · exact c_Mod_state_no l G ad ow Z hm hn  k  h0
  · exact c_Mod_state_yes l G ad ow Z hm hn  j  hj h0
set_option maxHeartbeats 4000000 in
theorem c_Mod_value_no (l : Launch) (G : Gt) (ad : Nat → Nat → Nat) (ow : Nat → Nat × Nat) (Z : Zt) (hm : ML Z) (hn : xn Z 20 0 ≤ 40) (k : Int32) (h0 : m_isKey Z k = 0) : Met l y_Mod_value w_Mod_value ({ frames := 1, cells := 0, slots := 0, locals := 21 }) (zPc G ad ow Z [.ref (ad 10 0), .int k]) (Qd G ad ow (si Z 20 0 (m_valC Z k)) (some (.long (m_value Z k)))) 0 0 (zA G) := by
  refine zopen (cc := b_Mod_value) (maxL := 2) (ret := (some FieldType.long)) (by decide) rfl (Nat.le_of_ble_eq_true rfl) ?_
  intro p e s m below meth c ls hC hr hlk hnm hd hl
  have hC : Cx G p c m s _ "KeyGraphModel" b_Mod_value 2 := hC
  have hl : lv_has ls 2 [(0, .ref (ad 10 0)), (1, .int k)] := hl
  have hx := hC.1
  have hb := hC.2.1
  refine lv_aload_n hx hb d_Mod_value_0 rfl (lv_at hl 0 rfl) ?_
  refine lv_aload_n hx hb d_Mod_value_1 rfl (lv_at hl 0 rfl) ?_
  refine lv_iload_n hx hb d_Mod_value_2 rfl (lv_at hl 1 rfl) ?_
  refine zb_i (r := 0) hd (zrunV (n := 1) (rest := [.ref (ad 10 0)]) hC hd (e_mod hm.1) rfl (c_Mod_isKey_r l G ad ow Z hm k 0 h0) q_750 q_752 qp_18 q_6 q_753 rfl rfl rfl (by decide +kernel) ⟨by decide, by decide⟩ rfl hl.1 (Nat.le_of_ble_eq_true rfl) d_Mod_value_3 ⟨by decide, by decide⟩) (fun H locs hd => ?_)
  refine lv_if_ne (tgt := 13) hx hb d_Mod_value_6 (by decide) (fun c => absurd c (by decide)) (fun _ => ?_)
  refine lv_iconst (v := 1) hx hb d_Mod_value_9 (by decide) ?_
  refine lv_goto (tgt := 36) hx hb d_Mod_value_10 (by decide) ?_
  refine zput (Z' := (si Z 20 0 1)) hC hd (e_mod hm.1) rfl i_Mod t_Mod t_Mod_ok n_Mod 0 (by decide) q_653 (Or.inl rfl) rfl rfl rfl (Nat.le_of_ble_eq_true rfl) (u_mcode hm.1) d_Mod_value_36 (fun H locs hd => ?_)
  refine lv_aload_n hx hb d_Mod_value_39 rfl (lv_at hl 0 rfl) ?_
  refine zget hC hd (e_mod hm.1) rfl i_Mod 0 (by decide) q_653 (Or.inl rfl) (v := .int 1) rfl d_Mod_value_40 ?_
  have hvc : m_valC Z k = 1 := by unfold m_valC; (repeat (first | (rw [if_pos]; rotate_left; first | assumption | decide) | (rw [if_neg]; rotate_left; first | assumption | decide))) <;> (try rfl)
  refine lv_if_le (tgt := 50) hx hb d_Mod_value_43 (by decide) (fun c => absurd c (by decide)) (fun _ => ?_)
  refine lv_lconst (v := 0) hx hb d_Mod_value_46 (by decide) ?_
  refine lv_goto (tgt := 56) hx hb d_Mod_value_47 (by decide) ?_
  exact zfl hC hd hr hlk d_Mod_value_56 (by unfold m_value; rw [hvc]; (repeat (first | (rw [if_pos]; rotate_left; first | assumption | decide) | (rw [if_neg]; rotate_left; first | assumption | decide))) <;> (try rfl)) (by rw [hvc])
set_option maxHeartbeats 4000000 in
theorem c_Mod_value_yes (l : Launch) (G : Gt) (ad : Nat → Nat → Nat) (ow : Nat → Nat × Nat) (Z : Zt) (hm : ML Z) (hn : xn Z 20 0 ≤ 40) (k : Nat) (hk : k < xn Z 20 0) (h0 : m_isKey Z (nI k) = 1) : Met l y_Mod_value w_Mod_value ({ frames := 1, cells := 0, slots := 0, locals := 21 }) (zPc G ad ow Z [.ref (ad 10 0), .int (nI k)]) (Qd G ad ow (si Z 20 0 (m_valC Z (nI k))) (some (.long (m_value Z (nI k))))) 0 0 (zA G) := by
  refine zopen (cc := b_Mod_value) (maxL := 2) (ret := (some FieldType.long)) (by decide) rfl (Nat.le_of_ble_eq_true rfl) ?_
  intro p e s m below meth c ls hC hr hlk hnm hd hl
  have hC : Cx G p c m s _ "KeyGraphModel" b_Mod_value 2 := hC
  have hl : lv_has ls 2 [(0, .ref (ad 10 0)), (1, .int (nI k))] := hl
  have hx := hC.1
  have hb := hC.2.1
  have hcl : (nI k).toNatClampNeg = k := nI_clamp (by omega)
  have h0n : ¬ m_isKey Z (nI k) = 0 := by rw [h0]; decide
  refine lv_aload_n hx hb d_Mod_value_0 rfl (lv_at hl 0 rfl) ?_
  refine lv_aload_n hx hb d_Mod_value_1 rfl (lv_at hl 0 rfl) ?_
  refine lv_iload_n hx hb d_Mod_value_2 rfl (lv_at hl 1 rfl) ?_
  refine zb_i (r := 1) hd (zrunV (n := 1) (rest := [.ref (ad 10 0)]) hC hd (e_mod hm.1) rfl (c_Mod_isKey_r l G ad ow Z hm (nI k) 1 h0) q_750 q_752 qp_18 q_6 q_753 rfl rfl rfl (by decide +kernel) ⟨by decide, by decide⟩ rfl hl.1 (Nat.le_of_ble_eq_true rfl) d_Mod_value_3 ⟨by decide, by decide⟩) (fun H locs hd => ?_)
  refine lv_if_ne (tgt := 13) hx hb d_Mod_value_6 (by decide) (fun _ => ?_) (fun c => absurd c (by decide))
  refine lv_aload_n hx hb d_Mod_value_13 rfl (lv_at hl 0 rfl) ?_
  refine lv_iload_n hx hb d_Mod_value_14 rfl (lv_at hl 1 rfl) ?_
  refine zb_i (r := (m_isSure Z k)) hd (zrunV (n := 1) (rest := [.ref (ad 10 0)]) hC hd (e_mod hm.1) rfl (c_Mod_isSure l G ad ow Z hm k (by omega) (m_isSure Z k) rfl) q_801 q_803 qp_26 q_6 q_804 rfl rfl rfl (by decide +kernel) ⟨by decide, by decide⟩ rfl hl.1 (Nat.le_of_ble_eq_true rfl) d_Mod_value_15 ⟨by decide, by decide⟩) (fun H locs hd => ?_)
  refine lv_if_eq (tgt := 31) hx hb d_Mod_value_18 (by decide) (fun c18 => ?_) (fun c18 => ?_)
  · refine lv_iconst (v := 2) hx hb d_Mod_value_31 (by decide) ?_
    refine lv_goto (tgt := 36) hx hb d_Mod_value_32 (by decide) ?_
    refine zput (Z' := (si Z 20 0 2)) hC hd (e_mod hm.1) rfl i_Mod t_Mod t_Mod_ok n_Mod 0 (by decide) q_653 (Or.inl rfl) rfl rfl rfl (Nat.le_of_ble_eq_true rfl) (u_mcode hm.1) d_Mod_value_36 (fun H locs hd => ?_)
    refine lv_aload_n hx hb d_Mod_value_39 rfl (lv_at hl 0 rfl) ?_
    refine zget hC hd (e_mod hm.1) rfl i_Mod 0 (by decide) q_653 (Or.inl rfl) (v := .int 2) rfl d_Mod_value_40 ?_
    have hvc : m_valC Z (nI k) = 2 := by unfold m_valC; rw [hcl]; (repeat (first | (rw [if_pos]; rotate_left; first | assumption | decide) | (rw [if_neg]; rotate_left; first | assumption | decide))) <;> (try rfl)
    refine lv_if_le (tgt := 50) hx hb d_Mod_value_43 (by decide) (fun c => absurd c (by decide)) (fun _ => ?_)
    refine lv_lconst (v := 0) hx hb d_Mod_value_46 (by decide) ?_
    refine lv_goto (tgt := 56) hx hb d_Mod_value_47 (by decide) ?_
    exact zfl hC hd hr hlk d_Mod_value_56 (by unfold m_value; rw [hvc, hcl]; (repeat (first | (rw [if_pos]; rotate_left; first | assumption | decide) | (rw [if_neg]; rotate_left; first | assumption | decide))) <;> (try rfl)) (by rw [hvc])
  · refine lv_aload_n hx hb d_Mod_value_21 rfl (lv_at hl 0 rfl) ?_
    refine zget hC hd (e_mod hm.1) rfl i_Mod 6 (by decide) q_659 (Or.inl rfl) (v := .ref (ad 11 6)) rfl d_Mod_value_22 ?_
    refine lv_iload_n hx hb d_Mod_value_25 rfl (lv_at hl 1 rfl) ?_
    refine ziaI (k := k) (f := xi Z 506) hC hd (e_m6 hm.2) (by omega) (by decide) d_Mod_value_26 ?_
    refine lv_iconst (v := 1) hx hb d_Mod_value_27 (by decide) ?_
    refine lv_icmp_eq (tgt := 35) hx hb d_Mod_value_28 (by decide) (fun c28 => ?_) (fun c28 => ?_)
    · refine lv_iconst (v := 0) hx hb d_Mod_value_35 (by decide) ?_
      refine zput (Z' := (si Z 20 0 0)) hC hd (e_mod hm.1) rfl i_Mod t_Mod t_Mod_ok n_Mod 0 (by decide) q_653 (Or.inl rfl) rfl rfl rfl (Nat.le_of_ble_eq_true rfl) (u_mcode hm.1) d_Mod_value_36 (fun H locs hd => ?_)
      refine lv_aload_n hx hb d_Mod_value_39 rfl (lv_at hl 0 rfl) ?_
      refine zget hC hd (e_mod hm.1) rfl i_Mod 0 (by decide) q_653 (Or.inl rfl) (v := .int 0) rfl d_Mod_value_40 ?_
      have hvc : m_valC Z (nI k) = 0 := by unfold m_valC; rw [hcl]; (repeat (first | (rw [if_pos]; rotate_left; first | assumption | decide) | (rw [if_neg]; rotate_left; first | assumption | decide))) <;> (try rfl)
      refine lv_if_le (tgt := 50) hx hb d_Mod_value_43 (by decide) (fun _ => ?_) (fun c => absurd c (by decide))
      refine lv_aload_n hx hb d_Mod_value_50 rfl (lv_at hl 0 rfl) ?_
      refine zget hC hd (e_mod hm.1) rfl i_Mod 14 (by decide) q_667 (Or.inl rfl) (v := .ref (ad 11 14)) rfl d_Mod_value_51 ?_
      refine lv_iload_n hx hb d_Mod_value_54 rfl (lv_at hl 1 rfl) ?_
      refine zlaI (k := k) (f := xl Z 514) hC hd (e_m14 hm.2) (by omega) (by decide) d_Mod_value_55 ?_
      exact zfl hC hd hr hlk d_Mod_value_56 (by unfold m_value; rw [hvc, hcl]; (repeat (first | (rw [if_pos]; rotate_left; first | assumption | decide) | (rw [if_neg]; rotate_left; first | assumption | decide))) <;> (try rfl)) (by rw [hvc])
    · refine lv_iconst (v := 2) hx hb d_Mod_value_31 (by decide) ?_
      refine lv_goto (tgt := 36) hx hb d_Mod_value_32 (by decide) ?_
      refine zput (Z' := (si Z 20 0 2)) hC hd (e_mod hm.1) rfl i_Mod t_Mod t_Mod_ok n_Mod 0 (by decide) q_653 (Or.inl rfl) rfl rfl rfl (Nat.le_of_ble_eq_true rfl) (u_mcode hm.1) d_Mod_value_36 (fun H locs hd => ?_)
      refine lv_aload_n hx hb d_Mod_value_39 rfl (lv_at hl 0 rfl) ?_
      refine zget hC hd (e_mod hm.1) rfl i_Mod 0 (by decide) q_653 (Or.inl rfl) (v := .int 2) rfl d_Mod_value_40 ?_
      have hvc : m_valC Z (nI k) = 2 := by unfold m_valC; rw [hcl]; (repeat (first | (rw [if_pos]; rotate_left; first | assumption | decide) | (rw [if_neg]; rotate_left; first | assumption | decide))) <;> (try rfl)
      refine lv_if_le (tgt := 50) hx hb d_Mod_value_43 (by decide) (fun c => absurd c (by decide)) (fun _ => ?_)
      refine lv_lconst (v := 0) hx hb d_Mod_value_46 (by decide) ?_
      refine lv_goto (tgt := 56) hx hb d_Mod_value_47 (by decide) ?_
      exact zfl hC hd hr hlk d_Mod_value_56 (by unfold m_value; rw [hvc, hcl]; (repeat (first | (rw [if_pos]; rotate_left; first | assumption | decide) | (rw [if_neg]; rotate_left; first | assumption | decide))) <;> (try rfl)) (by rw [hvc])
theorem c_Mod_value (l : Launch) (G : Gt) (ad : Nat → Nat → Nat) (ow : Nat → Nat × Nat) (Z : Zt) (hm : ML Z) (hn : xn Z 20 0 ≤ 40) (k : Int32) : Met l y_Mod_value w_Mod_value ({ frames := 1, cells := 0, slots := 0, locals := 21 }) (zPc G ad ow Z [.ref (ad 10 0), .int k]) (Qd G ad ow (si Z 20 0 (m_valC Z k)) (some (.long (m_value Z k)))) 0 0 (zA G) := by
  rcases m_isKey_cases Z k hn with h0 | ⟨j, hj, rfl, h0⟩
  · exact c_Mod_value_no l G ad ow Z hm hn  k  h0
  · exact c_Mod_value_yes l G ad ow Z hm hn  j  hj h0
set_option maxHeartbeats 4000000 in
theorem c_Mod_ring (l : Launch) (G : Gt) (ad : Nat → Nat → Nat) (ow : Nat → Nat × Nat) (Z : Zt) (hm : ML Z) (hr40 : xn Z 21 0 ≤ 40) (i : Int32) : Met l y_Mod_ring w_Mod_ring ({ frames := 0, cells := 0, slots := 0, locals := 0 }) (zPc G ad ow Z [.ref (ad 10 0), .int i]) (Qd G ad ow (m0 Z) (some (.int (m_ring Z i)))) 0 0 (zA G) := by
  refine zopen (cc := b_Mod_ring) (maxL := 2) (ret := (some FieldType.int)) (by decide) rfl (Nat.le_of_ble_eq_true rfl) ?_
  intro p e s m below meth c ls hC hr hlk hnm hd hl
  have hC : Cx G p c m s _ "KeyGraphModel" b_Mod_ring 2 := hC
  have hl : lv_has ls 2 [(0, .ref (ad 10 0)), (1, .int i)] := hl
  have hx := hC.1
  have hb := hC.2.1
  refine lv_aload_n hx hb d_Mod_ring_0 rfl (lv_at hl 0 rfl) ?_
  refine lv_iconst (v := 0) hx hb d_Mod_ring_1 (by decide) ?_
  refine zput (Z' := (si Z 20 0 0)) hC hd (e_mod hm.1) rfl i_Mod t_Mod t_Mod_ok n_Mod 0 (by decide) q_653 (Or.inl rfl) rfl rfl rfl (Nat.le_of_ble_eq_true rfl) (u_mcode hm.1) d_Mod_ring_2 (fun H locs hd => ?_)
  refine lv_iload_n hx hb d_Mod_ring_5 rfl (lv_at hl 1 rfl) ?_
  refine lv_if_lt (tgt := 17) hx hb d_Mod_ring_6 (by decide) (fun c6 => ?_) (fun c6 => ?_)
  · refine lv_iconst (v := (-1)) hx hb d_Mod_ring_17 (by decide) ?_
    refine lv_goto (tgt := 27) hx hb d_Mod_ring_18 (by decide) ?_
    exact zfi hC hd hr hlk d_Mod_ring_27 (by unfold m_ring; (repeat (first | (rw [if_pos]; rotate_left; first | assumption | decide) | (rw [if_neg]; rotate_left; first | assumption | decide))) <;> (try rfl)) rfl
  · obtain ⟨i1, hi1, rfl⟩ := nI_of c6
    have hci : (nI i1).toNatClampNeg = i1 := nI_clamp hi1
    refine lv_iload_n hx hb d_Mod_ring_9 rfl (lv_at hl 1 rfl) ?_
    refine lv_aload_n hx hb d_Mod_ring_10 rfl (lv_at hl 0 rfl) ?_
    refine zget hC hd (e_mod hm.1) rfl i_Mod 23 (by decide) q_676 (Or.inl rfl) (v := .int (nI (xn Z 21 0))) rfl d_Mod_ring_11 ?_
    refine zc_lt (x := i1) (y := xn Z 21 0) (tgt := 21) (by omega) (by omega) hx hb d_Mod_ring_14 (by decide) (fun c14 => ?_) (fun c14 => ?_)
    · have c14' := Nat.not_le.mpr c14
      have c14b :  nI i1 < nI (xn Z 21 0) := nI_lt c14 (by omega)
      refine lv_aload_n hx hb d_Mod_ring_21 rfl (lv_at hl 0 rfl) ?_
      refine zget hC hd (e_mod hm.1) rfl i_Mod 22 (by decide) q_675 (Or.inl rfl) (v := .ref (ad 11 22)) rfl d_Mod_ring_22 ?_
      refine lv_iload_n hx hb d_Mod_ring_25 rfl (lv_at hl 1 rfl) ?_
      refine ziaN (k := i1) (f := xn Z 522) hC hd (e_m22 hm.2) (by omega) (by decide) d_Mod_ring_26 ?_
      exact zfi hC hd hr hlk d_Mod_ring_27 (by unfold m_ring; rw [hci]; (repeat (first | (rw [if_pos]; rotate_left; first | assumption | decide) | (rw [if_neg]; rotate_left; first | assumption | decide))) <;> (try rfl)) rfl
    · have c14' := Nat.not_lt.mpr c14
      have c14b : ¬ nI i1 < nI (xn Z 21 0) := fun q => absurd ((nI_ltI (by omega) (by omega)).mp q) (by omega)
      refine lv_iconst (v := (-1)) hx hb d_Mod_ring_17 (by decide) ?_
      refine lv_goto (tgt := 27) hx hb d_Mod_ring_18 (by decide) ?_
      exact zfi hC hd hr hlk d_Mod_ring_27 (by unfold m_ring; rw [hci]; (repeat (first | (rw [if_pos]; rotate_left; first | assumption | decide) | (rw [if_neg]; rotate_left; first | assumption | decide))) <;> (try rfl)) rfl
set_option maxHeartbeats 4000000 in
theorem c_Mod_version (l : Launch) (G : Gt) (ad : Nat → Nat → Nat) (ow : Nat → Nat × Nat) (Z : Zt) (hm : ML Z) : Met l y_Mod_version w_Mod_version ({ frames := 0, cells := 0, slots := 0, locals := 0 }) (zPc G ad ow Z [.ref (ad 10 0)]) (Qd G ad ow (m0 Z) (some (.int (xi Z 21 0)))) 0 0 (zA G) := by
  refine zopen (cc := b_Mod_version) (maxL := 1) (ret := (some FieldType.int)) (by decide) rfl (Nat.le_of_ble_eq_true rfl) ?_
  intro p e s m below meth c ls hC hr hlk hnm hd hl
  have hC : Cx G p c m s _ "KeyGraphModel" b_Mod_version 1 := hC
  have hl : lv_has ls 1 [(0, .ref (ad 10 0))] := hl
  have hx := hC.1
  have hb := hC.2.1
  refine lv_aload_n hx hb d_Mod_version_0 rfl (lv_at hl 0 rfl) ?_
  refine lv_iconst (v := 0) hx hb d_Mod_version_1 (by decide) ?_
  refine zput (Z' := (si Z 20 0 0)) hC hd (e_mod hm.1) rfl i_Mod t_Mod t_Mod_ok n_Mod 0 (by decide) q_653 (Or.inl rfl) rfl rfl rfl (Nat.le_of_ble_eq_true rfl) (u_mcode hm.1) d_Mod_version_2 (fun H locs hd => ?_)
  refine lv_aload_n hx hb d_Mod_version_5 rfl (lv_at hl 0 rfl) ?_
  refine zget hC hd (e_mod hm.1) rfl i_Mod 1 (by decide) q_654 (Or.inl rfl) (v := .int (xi Z 21 0)) rfl d_Mod_version_6 ?_
  exact zfi hC hd hr hlk d_Mod_version_9 rfl rfl
set_option maxHeartbeats 4000000 in
theorem c_Mod_change_no (l : Launch) (G : Gt) (ad : Nat → Nat → Nat) (ow : Nat → Nat × Nat) (Z : Zt) (hm : ML Z) (hn : xn Z 20 0 ≤ 40) (k : Int32) (v : Int64) (h0 : m_isLeaf Z k = 0) : Met l y_Mod_change w_Mod_change ({ frames := 2, cells := 0, slots := 0, locals := 42 }) (zPc G ad ow Z [.ref (ad 10 0), .int k, .long v]) (Qd G ad ow ((m_change Z k v).1) (some (.int (m_change Z k v).2))) 0 0 (zA G) := by
  refine zopen (cc := b_Mod_change) (maxL := 4) (ret := (some FieldType.int)) (by decide) rfl (Nat.le_of_ble_eq_true rfl) ?_
  intro p e s m below meth c ls hC hr hlk hnm hd hl
  have hC : Cx G p c m s _ "KeyGraphModel" b_Mod_change 4 := hC
  have hl : lv_has ls 4 [(0, .ref (ad 10 0)), (1, .int k), (2, .long v)] := hl
  have hx := hC.1
  have hb := hC.2.1
  refine lv_aload_n hx hb d_Mod_change_0 rfl (lv_at hl 0 rfl) ?_
  refine lv_iconst (v := 0) hx hb d_Mod_change_1 (by decide) ?_
  refine zput (Z' := (si Z 20 0 0)) hC hd (e_mod hm.1) rfl i_Mod t_Mod t_Mod_ok n_Mod 0 (by decide) q_653 (Or.inl rfl) rfl rfl rfl (Nat.le_of_ble_eq_true rfl) (u_mcode hm.1) d_Mod_change_2 (fun H locs hd => ?_)
  refine lv_aload_n hx hb d_Mod_change_5 rfl (lv_at hl 0 rfl) ?_
  refine lv_iload_n hx hb d_Mod_change_6 rfl (lv_at hl 1 rfl) ?_
  refine zb_i (r := 0) hd (zrunV (n := 1) (rest := []) hC hd (e_mod hm.1) rfl (c_Mod_isLeaf_r l G ad ow (si Z 20 0 0) hm hn k 0 h0) q_754 q_756 qp_19 q_6 q_757 rfl rfl rfl (by decide +kernel) ⟨by decide, by decide⟩ rfl hl.1 (Nat.le_of_ble_eq_true rfl) d_Mod_change_7 ⟨by decide, by decide⟩) (fun H locs hd => ?_)
  refine lv_if_ne (tgt := 15) hx hb d_Mod_change_10 (by decide) (fun c => absurd c (by decide)) (fun _ => ?_)
  refine lv_iconst (v := (-1)) hx hb d_Mod_change_13 (by decide) ?_
  exact zfi hC hd hr hlk d_Mod_change_14 (by unfold m_change; (repeat (first | (rw [if_pos]; rotate_left; first | assumption | decide) | (rw [if_neg]; rotate_left; first | assumption | decide))) <;> (try rfl)) (by unfold m_change; (repeat (first | (rw [if_pos]; rotate_left; first | assumption | decide) | (rw [if_neg]; rotate_left; first | assumption | decide))) <;> (try rfl))
set_option maxHeartbeats 4000000 in
theorem c_Mod_change_yes (l : Launch) (G : Gt) (ad : Nat → Nat → Nat) (ow : Nat → Nat × Nat) (Z : Zt) (hm : ML Z) (hn : xn Z 20 0 ≤ 40) (k : Nat) (v : Int64) (hk : k < xn Z 20 0) (h0 : m_isLeaf Z (nI k) = 1) : Met l y_Mod_change w_Mod_change ({ frames := 2, cells := 0, slots := 0, locals := 42 }) (zPc G ad ow Z [.ref (ad 10 0), .int (nI k), .long v]) (Qd G ad ow ((m_change Z (nI k) v).1) (some (.int (m_change Z (nI k) v).2))) 0 0 (zA G) := by
  refine zopen (cc := b_Mod_change) (maxL := 4) (ret := (some FieldType.int)) (by decide) rfl (Nat.le_of_ble_eq_true rfl) ?_
  intro p e s m below meth c ls hC hr hlk hnm hd hl
  have hC : Cx G p c m s _ "KeyGraphModel" b_Mod_change 4 := hC
  have hl : lv_has ls 4 [(0, .ref (ad 10 0)), (1, .int (nI k)), (2, .long v)] := hl
  have hx := hC.1
  have hb := hC.2.1
  have hcl : (nI k).toNatClampNeg = k := nI_clamp (by omega)
  have h0n : ¬ m_isLeaf Z (nI k) = 0 := by rw [h0]; decide
  refine lv_aload_n hx hb d_Mod_change_0 rfl (lv_at hl 0 rfl) ?_
  refine lv_iconst (v := 0) hx hb d_Mod_change_1 (by decide) ?_
  refine zput (Z' := (si Z 20 0 0)) hC hd (e_mod hm.1) rfl i_Mod t_Mod t_Mod_ok n_Mod 0 (by decide) q_653 (Or.inl rfl) rfl rfl rfl (Nat.le_of_ble_eq_true rfl) (u_mcode hm.1) d_Mod_change_2 (fun H locs hd => ?_)
  refine lv_aload_n hx hb d_Mod_change_5 rfl (lv_at hl 0 rfl) ?_
  refine lv_iload_n hx hb d_Mod_change_6 rfl (lv_at hl 1 rfl) ?_
  refine zb_i (r := 1) hd (zrunV (n := 1) (rest := []) hC hd (e_mod hm.1) rfl (c_Mod_isLeaf_r l G ad ow (si Z 20 0 0) hm hn (nI k) 1 h0) q_754 q_756 qp_19 q_6 q_757 rfl rfl rfl (by decide +kernel) ⟨by decide, by decide⟩ rfl hl.1 (Nat.le_of_ble_eq_true rfl) d_Mod_change_7 ⟨by decide, by decide⟩) (fun H locs hd => ?_)
  refine lv_if_ne (tgt := 15) hx hb d_Mod_change_10 (by decide) (fun _ => ?_) (fun c => absurd c (by decide))
  refine lv_aload_n hx hb d_Mod_change_15 rfl (lv_at hl 0 rfl) ?_
  refine zget hC hd (e_mod hm.1) rfl i_Mod 14 (by decide) q_667 (Or.inl rfl) (v := .ref (ad 11 14)) rfl d_Mod_change_16 ?_
  refine lv_iload_n hx hb d_Mod_change_19 rfl (lv_at hl 1 rfl) ?_
  refine zlaI (k := k) (f := xl Z 514) hC hd (e_m14 hm.2) (by omega) (by decide) d_Mod_change_20 ?_
  refine lv_lload_n hx hb d_Mod_change_21 rfl (lv_at hl 2 rfl) ?_
  refine W.lcmp hx hb d_Mod_change_22 ?_
  refine lv_if_eq (tgt := 43) hx hb d_Mod_change_23 (by decide) (fun c23 => ?_) (fun c23 => ?_)
  · simp only [ne_eq, lg_cmp_eq, lg_cmp_le, lg_cmp_lt, lg_cmp_ge, lg_cmp_gt] at c23
    refine lv_aload_n hx hb d_Mod_change_43 rfl (lv_at hl 0 rfl) ?_
    refine zget hC hd (e_mod hm.1) rfl i_Mod 1 (by decide) q_654 (Or.inl rfl) (v := .int (xi Z 21 0)) rfl d_Mod_change_44 ?_
    exact zfi hC hd hr hlk d_Mod_change_47 (by unfold m_change; rw [hcl]; (repeat (first | (rw [if_pos]; rotate_left; first | assumption | decide) | (rw [if_neg]; rotate_left; first | assumption | decide))) <;> (try rfl)) (by unfold m_change; rw [hcl]; (repeat (first | (rw [if_pos]; rotate_left; first | assumption | decide) | (rw [if_neg]; rotate_left; first | assumption | decide))) <;> (try rfl))
  · simp only [ne_eq, lg_cmp_eq, lg_cmp_le, lg_cmp_lt, lg_cmp_ge, lg_cmp_gt] at c23
    refine lv_aload_n hx hb d_Mod_change_26 rfl (lv_at hl 0 rfl) ?_
    refine zget hC hd (e_mod hm.1) rfl i_Mod 14 (by decide) q_667 (Or.inl rfl) (v := .ref (ad 11 14)) rfl d_Mod_change_27 ?_
    refine lv_iload_n hx hb d_Mod_change_30 rfl (lv_at hl 1 rfl) ?_
    refine lv_lload_n hx hb d_Mod_change_31 rfl (lv_at hl 2 rfl) ?_
    refine zlaS (k := k) (Z' := (sl (si Z 20 0 0) 514 k v)) hC hd (e_m14 hm.2) (by omega) (by decide) (u_m14 hm.2) d_Mod_change_32 (fun H locs hd => ?_)
    refine lv_aload_n hx hb d_Mod_change_33 rfl (lv_at hl 0 rfl) ?_
    refine zget hC hd (e_mod hm.1) rfl i_Mod 8 (by decide) q_661 (Or.inl rfl) (v := .ref (ad 11 8)) rfl d_Mod_change_34 ?_
    refine lv_iload_n hx hb d_Mod_change_37 rfl (lv_at hl 1 rfl) ?_
    refine lv_aload_n hx hb d_Mod_change_38 rfl (lv_at hl 0 rfl) ?_
    refine zb_i (r := (xi Z 21 0 + 1)) hd (zrunV (n := 0) (rest := [.int (nI k), .ref (ad 11 8)]) hC hd (e_mod hm.1) rfl (c_Mod_next l G ad ow (sl (si Z 20 0 0) 514 k v) hm) q_770 q_772 qp_23 q_6 q_773 rfl rfl rfl (by decide +kernel) ⟨by decide, by decide⟩ rfl hl.1 (Nat.le_of_ble_eq_true rfl) d_Mod_change_39 ⟨by decide, by decide⟩) (fun H locs hd => ?_)
    refine ziaS (k := k) (Z' := (si (m_next (sl (si Z 20 0 0) 514 k v)) 508 k (xi Z 21 0 + 1))) hC hd (e_m8 hm.2) (by omega) (by decide) (u_m8 hm.2) d_Mod_change_42 (fun H locs hd => ?_)
    refine lv_aload_n hx hb d_Mod_change_43 rfl (lv_at hl 0 rfl) ?_
    refine zget hC hd (e_mod hm.1) rfl i_Mod 1 (by decide) q_654 (Or.inl rfl) (v := .int (xi (m_next (sl (si Z 20 0 0) 514 k v)) 21 0)) rfl d_Mod_change_44 ?_
    exact zfi hC hd hr hlk d_Mod_change_47 (by unfold m_change; rw [hcl]; (repeat (first | (rw [if_pos]; rotate_left; first | assumption | decide) | (rw [if_neg]; rotate_left; first | assumption | decide))) <;> (try rfl)) (by unfold m_change; rw [hcl]; (repeat (first | (rw [if_pos]; rotate_left; first | assumption | decide) | (rw [if_neg]; rotate_left; first | assumption | decide))) <;> (try rfl))
theorem c_Mod_change (l : Launch) (G : Gt) (ad : Nat → Nat → Nat) (ow : Nat → Nat × Nat) (Z : Zt) (hm : ML Z) (hn : xn Z 20 0 ≤ 40) (k : Int32) (v : Int64) : Met l y_Mod_change w_Mod_change ({ frames := 2, cells := 0, slots := 0, locals := 42 }) (zPc G ad ow Z [.ref (ad 10 0), .int k, .long v]) (Qd G ad ow ((m_change Z k v).1) (some (.int (m_change Z k v).2))) 0 0 (zA G) := by
  rcases m_isLeaf_cases Z k hn with h0 | ⟨j, hj, rfl, h0, -⟩
  · exact c_Mod_change_no l G ad ow Z hm hn k v h0
  · exact c_Mod_change_yes l G ad ow Z hm hn j v hj h0
set_option maxHeartbeats 4000000 in
theorem c_Mod_spoil_no (l : Launch) (G : Gt) (ad : Nat → Nat → Nat) (ow : Nat → Nat × Nat) (Z : Zt) (hm : ML Z) (hn : xn Z 20 0 ≤ 40) (b : Int32) (hb01 : b = 0 ∨ b = 1) (k : Int32) (h0 : m_isKey Z k = 0) : Met l y_Mod_spoil w_Mod_spoil ({ frames := 2, cells := 0, slots := 0, locals := 42 }) (zPc G ad ow Z [.ref (ad 10 0), .int k, .int b]) (Qd G ad ow ((m_spoil Z k b).1) (some (.int (m_spoil Z k b).2))) 0 0 (zA G) := by
  refine zopen (cc := b_Mod_spoil) (maxL := 3) (ret := (some FieldType.int)) (by decide) rfl (Nat.le_of_ble_eq_true rfl) ?_
  intro p e s m below meth c ls hC hr hlk hnm hd hl
  have hC : Cx G p c m s _ "KeyGraphModel" b_Mod_spoil 3 := hC
  have hl : lv_has ls 3 [(0, .ref (ad 10 0)), (1, .int k), (2, .int b)] := hl
  have hx := hC.1
  have hb := hC.2.1
  refine lv_aload_n hx hb d_Mod_spoil_0 rfl (lv_at hl 0 rfl) ?_
  refine lv_iconst (v := 0) hx hb d_Mod_spoil_1 (by decide) ?_
  refine zput (Z' := (si Z 20 0 0)) hC hd (e_mod hm.1) rfl i_Mod t_Mod t_Mod_ok n_Mod 0 (by decide) q_653 (Or.inl rfl) rfl rfl rfl (Nat.le_of_ble_eq_true rfl) (u_mcode hm.1) d_Mod_spoil_2 (fun H locs hd => ?_)
  refine lv_aload_n hx hb d_Mod_spoil_5 rfl (lv_at hl 0 rfl) ?_
  refine lv_iload_n hx hb d_Mod_spoil_6 rfl (lv_at hl 1 rfl) ?_
  refine zb_i (r := 0) hd (zrunV (n := 1) (rest := []) hC hd (e_mod hm.1) rfl (c_Mod_isKey_r l G ad ow (si Z 20 0 0) hm k 0 h0) q_750 q_752 qp_18 q_6 q_753 rfl rfl rfl (by decide +kernel) ⟨by decide, by decide⟩ rfl hl.1 (Nat.le_of_ble_eq_true rfl) d_Mod_spoil_7 ⟨by decide, by decide⟩) (fun H locs hd => ?_)
  refine lv_if_eq (tgt := 21) hx hb d_Mod_spoil_10 (by decide) (fun _ => ?_) (fun c => absurd c (by decide))
  refine lv_iconst (v := (-1)) hx hb d_Mod_spoil_21 (by decide) ?_
  exact zfi hC hd hr hlk d_Mod_spoil_22 (by unfold m_spoil; (repeat (first | (rw [if_pos]; rotate_left; first | assumption | decide) | (rw [if_neg]; rotate_left; first | assumption | decide))) <;> (try rfl)) (by unfold m_spoil; (repeat (first | (rw [if_pos]; rotate_left; first | assumption | decide) | (rw [if_neg]; rotate_left; first | assumption | decide))) <;> (try rfl))
set_option maxHeartbeats 4000000 in
theorem c_Mod_spoil_leaf (l : Launch) (G : Gt) (ad : Nat → Nat → Nat) (ow : Nat → Nat × Nat) (Z : Zt) (hm : ML Z) (hn : xn Z 20 0 ≤ 40) (b : Int32) (hb01 : b = 0 ∨ b = 1) (k : Nat) (hk : k < xn Z 20 0) (h0 : m_isKey Z (nI k) = 1) (h1 : m_isLeaf Z (nI k) = 1) : Met l y_Mod_spoil w_Mod_spoil ({ frames := 2, cells := 0, slots := 0, locals := 42 }) (zPc G ad ow Z [.ref (ad 10 0), .int (nI k), .int b]) (Qd G ad ow ((m_spoil Z (nI k) b).1) (some (.int (m_spoil Z (nI k) b).2))) 0 0 (zA G) := by
  refine zopen (cc := b_Mod_spoil) (maxL := 3) (ret := (some FieldType.int)) (by decide) rfl (Nat.le_of_ble_eq_true rfl) ?_
  intro p e s m below meth c ls hC hr hlk hnm hd hl
  have hC : Cx G p c m s _ "KeyGraphModel" b_Mod_spoil 3 := hC
  have hl : lv_has ls 3 [(0, .ref (ad 10 0)), (1, .int (nI k)), (2, .int b)] := hl
  have hx := hC.1
  have hb := hC.2.1
  have h0n : ¬ m_isKey Z (nI k) = 0 := by rw [h0]; decide
  have h1n : ¬ m_isLeaf Z (nI k) = 0 := by rw [h1]; decide
  refine lv_aload_n hx hb d_Mod_spoil_0 rfl (lv_at hl 0 rfl) ?_
  refine lv_iconst (v := 0) hx hb d_Mod_spoil_1 (by decide) ?_
  refine zput (Z' := (si Z 20 0 0)) hC hd (e_mod hm.1) rfl i_Mod t_Mod t_Mod_ok n_Mod 0 (by decide) q_653 (Or.inl rfl) rfl rfl rfl (Nat.le_of_ble_eq_true rfl) (u_mcode hm.1) d_Mod_spoil_2 (fun H locs hd => ?_)
  refine lv_aload_n hx hb d_Mod_spoil_5 rfl (lv_at hl 0 rfl) ?_
  refine lv_iload_n hx hb d_Mod_spoil_6 rfl (lv_at hl 1 rfl) ?_
  refine zb_i (r := 1) hd (zrunV (n := 1) (rest := []) hC hd (e_mod hm.1) rfl (c_Mod_isKey_r l G ad ow (si Z 20 0 0) hm (nI k) 1 h0) q_750 q_752 qp_18 q_6 q_753 rfl rfl rfl (by decide +kernel) ⟨by decide, by decide⟩ rfl hl.1 (Nat.le_of_ble_eq_true rfl) d_Mod_spoil_7 ⟨by decide, by decide⟩) (fun H locs hd => ?_)
  refine lv_if_eq (tgt := 21) hx hb d_Mod_spoil_10 (by decide) (fun c => absurd c (by decide)) (fun _ => ?_)
  refine lv_aload_n hx hb d_Mod_spoil_13 rfl (lv_at hl 0 rfl) ?_
  refine lv_iload_n hx hb d_Mod_spoil_14 rfl (lv_at hl 1 rfl) ?_
  refine zb_i (r := 1) hd (zrunV (n := 1) (rest := []) hC hd (e_mod hm.1) rfl (c_Mod_isLeaf_r l G ad ow (si Z 20 0 0) hm hn (nI k) 1 h1) q_754 q_756 qp_19 q_6 q_757 rfl rfl rfl (by decide +kernel) ⟨by decide, by decide⟩ rfl hl.1 (Nat.le_of_ble_eq_true rfl) d_Mod_spoil_15 ⟨by decide, by decide⟩) (fun H locs hd => ?_)
  refine lv_if_eq (tgt := 23) hx hb d_Mod_spoil_18 (by decide) (fun c => absurd c (by decide)) (fun _ => ?_)
  refine lv_iconst (v := (-1)) hx hb d_Mod_spoil_21 (by decide) ?_
  exact zfi hC hd hr hlk d_Mod_spoil_22 (by unfold m_spoil; (repeat (first | (rw [if_pos]; rotate_left; first | assumption | decide) | (rw [if_neg]; rotate_left; first | assumption | decide))) <;> (try rfl)) (by unfold m_spoil; (repeat (first | (rw [if_pos]; rotate_left; first | assumption | decide) | (rw [if_neg]; rotate_left; first | assumption | decide))) <;> (try rfl))
set_option maxHeartbeats 4000000 in
theorem c_Mod_spoil_fn (l : Launch) (G : Gt) (ad : Nat → Nat → Nat) (ow : Nat → Nat × Nat) (Z : Zt) (hm : ML Z) (hn : xn Z 20 0 ≤ 40) (b : Int32) (hb01 : b = 0 ∨ b = 1) (k : Nat) (hk : k < xn Z 20 0) (h0 : m_isKey Z (nI k) = 1) (h1 : m_isLeaf Z (nI k) = 0) : Met l y_Mod_spoil w_Mod_spoil ({ frames := 2, cells := 0, slots := 0, locals := 42 }) (zPc G ad ow Z [.ref (ad 10 0), .int (nI k), .int b]) (Qd G ad ow ((m_spoil Z (nI k) b).1) (some (.int (m_spoil Z (nI k) b).2))) 0 0 (zA G) := by
  refine zopen (cc := b_Mod_spoil) (maxL := 3) (ret := (some FieldType.int)) (by decide) rfl (Nat.le_of_ble_eq_true rfl) ?_
  intro p e s m below meth c ls hC hr hlk hnm hd hl
  have hC : Cx G p c m s _ "KeyGraphModel" b_Mod_spoil 3 := hC
  have hl : lv_has ls 3 [(0, .ref (ad 10 0)), (1, .int (nI k)), (2, .int b)] := hl
  have hx := hC.1
  have hb := hC.2.1
  have h0n : ¬ m_isKey Z (nI k) = 0 := by rw [h0]; decide
  have hcl : (nI k).toNatClampNeg = k := nI_clamp (by omega)
  refine lv_aload_n hx hb d_Mod_spoil_0 rfl (lv_at hl 0 rfl) ?_
  refine lv_iconst (v := 0) hx hb d_Mod_spoil_1 (by decide) ?_
  refine zput (Z' := (si Z 20 0 0)) hC hd (e_mod hm.1) rfl i_Mod t_Mod t_Mod_ok n_Mod 0 (by decide) q_653 (Or.inl rfl) rfl rfl rfl (Nat.le_of_ble_eq_true rfl) (u_mcode hm.1) d_Mod_spoil_2 (fun H locs hd => ?_)
  refine lv_aload_n hx hb d_Mod_spoil_5 rfl (lv_at hl 0 rfl) ?_
  refine lv_iload_n hx hb d_Mod_spoil_6 rfl (lv_at hl 1 rfl) ?_
  refine zb_i (r := 1) hd (zrunV (n := 1) (rest := []) hC hd (e_mod hm.1) rfl (c_Mod_isKey_r l G ad ow (si Z 20 0 0) hm (nI k) 1 h0) q_750 q_752 qp_18 q_6 q_753 rfl rfl rfl (by decide +kernel) ⟨by decide, by decide⟩ rfl hl.1 (Nat.le_of_ble_eq_true rfl) d_Mod_spoil_7 ⟨by decide, by decide⟩) (fun H locs hd => ?_)
  refine lv_if_eq (tgt := 21) hx hb d_Mod_spoil_10 (by decide) (fun c => absurd c (by decide)) (fun _ => ?_)
  refine lv_aload_n hx hb d_Mod_spoil_13 rfl (lv_at hl 0 rfl) ?_
  refine lv_iload_n hx hb d_Mod_spoil_14 rfl (lv_at hl 1 rfl) ?_
  refine zb_i (r := 0) hd (zrunV (n := 1) (rest := []) hC hd (e_mod hm.1) rfl (c_Mod_isLeaf_r l G ad ow (si Z 20 0 0) hm hn (nI k) 0 h1) q_754 q_756 qp_19 q_6 q_757 rfl rfl rfl (by decide +kernel) ⟨by decide, by decide⟩ rfl hl.1 (Nat.le_of_ble_eq_true rfl) d_Mod_spoil_15 ⟨by decide, by decide⟩) (fun H locs hd => ?_)
  refine lv_if_eq (tgt := 23) hx hb d_Mod_spoil_18 (by decide) (fun _ => ?_) (fun c => absurd c (by decide))
  refine lv_aload_n hx hb d_Mod_spoil_23 rfl (lv_at hl 0 rfl) ?_
  refine zget hC hd (e_mod hm.1) rfl i_Mod 15 (by decide) q_668 (Or.inl rfl) (v := .ref (ad 11 15)) rfl d_Mod_spoil_24 ?_
  refine lv_iload_n hx hb d_Mod_spoil_27 rfl (lv_at hl 1 rfl) ?_
  refine zzaI (k := k) (f := xi Z 515) hC hd (e_m15 hm.2) (by omega) (by decide) d_Mod_spoil_28 ?_
  refine lv_iload_n hx hb d_Mod_spoil_29 rfl (lv_at hl 2 rfl) ?_
  refine lv_icmp_eq (tgt := 50) hx hb d_Mod_spoil_30 (by decide) (fun c30 => ?_) (fun c30 => ?_)
  · refine lv_aload_n hx hb d_Mod_spoil_50 rfl (lv_at hl 0 rfl) ?_
    refine zget hC hd (e_mod hm.1) rfl i_Mod 1 (by decide) q_654 (Or.inl rfl) (v := .int (xi Z 21 0)) rfl d_Mod_spoil_51 ?_
    exact zfi hC hd hr hlk d_Mod_spoil_54 (by unfold m_spoil; rw [hcl]; (repeat (first | (rw [if_pos]; rotate_left; first | assumption | decide) | (rw [if_neg]; rotate_left; first | assumption | decide))) <;> (try rfl)) (by unfold m_spoil; rw [hcl]; (repeat (first | (rw [if_pos]; rotate_left; first | assumption | decide) | (rw [if_neg]; rotate_left; first | assumption | decide))) <;> (try rfl))
  · refine lv_aload_n hx hb d_Mod_spoil_33 rfl (lv_at hl 0 rfl) ?_
    refine zget hC hd (e_mod hm.1) rfl i_Mod 15 (by decide) q_668 (Or.inl rfl) (v := .ref (ad 11 15)) rfl d_Mod_spoil_34 ?_
    refine lv_iload_n hx hb d_Mod_spoil_37 rfl (lv_at hl 1 rfl) ?_
    refine lv_iload_n hx hb d_Mod_spoil_38 rfl (lv_at hl 2 rfl) ?_
    refine zzaS (y := b) (k := k) (Z' := (si (si Z 20 0 0) 515 k b)) hC hd hb01 (e_m15 hm.2) (by omega) (by decide) (u_m15 hm.2) d_Mod_spoil_39 (fun H locs hd => ?_)
    refine lv_aload_n hx hb d_Mod_spoil_40 rfl (lv_at hl 0 rfl) ?_
    refine zget hC hd (e_mod hm.1) rfl i_Mod 9 (by decide) q_662 (Or.inl rfl) (v := .ref (ad 11 9)) rfl d_Mod_spoil_41 ?_
    refine lv_iload_n hx hb d_Mod_spoil_44 rfl (lv_at hl 1 rfl) ?_
    refine lv_aload_n hx hb d_Mod_spoil_45 rfl (lv_at hl 0 rfl) ?_
    refine zb_i (r := (xi Z 21 0 + 1)) hd (zrunV (n := 0) (rest := [.int (nI k), .ref (ad 11 9)]) hC hd (e_mod hm.1) rfl (c_Mod_next l G ad ow (si (si Z 20 0 0) 515 k b) hm) q_770 q_772 qp_23 q_6 q_773 rfl rfl rfl (by decide +kernel) ⟨by decide, by decide⟩ rfl hl.1 (Nat.le_of_ble_eq_true rfl) d_Mod_spoil_46 ⟨by decide, by decide⟩) (fun H locs hd => ?_)
    refine ziaS (k := k) (Z' := (si (m_next (si (si Z 20 0 0) 515 k b)) 509 k (xi Z 21 0 + 1))) hC hd (e_m9 hm.2) (by omega) (by decide) (u_m9 hm.2) d_Mod_spoil_49 (fun H locs hd => ?_)
    refine lv_aload_n hx hb d_Mod_spoil_50 rfl (lv_at hl 0 rfl) ?_
    refine zget hC hd (e_mod hm.1) rfl i_Mod 1 (by decide) q_654 (Or.inl rfl) (v := .int (xi (m_next (si (si Z 20 0 0) 515 k b)) 21 0)) rfl d_Mod_spoil_51 ?_
    exact zfi hC hd hr hlk d_Mod_spoil_54 (by unfold m_spoil; rw [hcl]; (repeat (first | (rw [if_pos]; rotate_left; first | assumption | decide) | (rw [if_neg]; rotate_left; first | assumption | decide))) <;> (try rfl)) (by unfold m_spoil; rw [hcl]; (repeat (first | (rw [if_pos]; rotate_left; first | assumption | decide) | (rw [if_neg]; rotate_left; first | assumption | decide))) <;> (try rfl))
theorem c_Mod_spoil (l : Launch) (G : Gt) (ad : Nat → Nat → Nat) (ow : Nat → Nat × Nat) (Z : Zt) (hm : ML Z) (hn : xn Z 20 0 ≤ 40) (k b : Int32) (hb01 : b = 0 ∨ b = 1) : Met l y_Mod_spoil w_Mod_spoil ({ frames := 2, cells := 0, slots := 0, locals := 42 }) (zPc G ad ow Z [.ref (ad 10 0), .int k, .int b]) (Qd G ad ow ((m_spoil Z k b).1) (some (.int (m_spoil Z k b).2))) 0 0 (zA G) := by
  rcases m_isKey_cases Z k hn with h0 | ⟨j, hj, rfl, h0⟩
  · exact c_Mod_spoil_no l G ad ow Z hm hn b hb01 k h0
  · rcases m_isLeaf_cases Z (nI j) hn with h1 | ⟨i, -, -, h1, -⟩
    · exact c_Mod_spoil_fn l G ad ow Z hm hn b hb01 j hj h0 h1
    · exact c_Mod_spoil_leaf l G ad ow Z hm hn b hb01 j hj h0 h1
set_option maxHeartbeats 4000000 in
theorem c_Mod_begin_now (l : Launch) (G : Gt) (ad : Nat → Nat → Nat) (ow : Nat → Nat × Nat) (Z : Zt) (hm : ML Z) (w k : Int32) (hw : m_isWorker w = 0) : Met l y_Mod_begin w_Mod_begin ({ frames := 1, cells := 0, slots := 0, locals := 24 }) (zPc G ad ow Z [.ref (ad 10 0), .int w, .int k]) (Qd G ad ow ((m_begin Z w k).1) (some (.int (m_begin Z w k).2))) 0 0 (zA G) := by
  refine zopen (cc := b_Mod_begin) (maxL := 3) (ret := (some FieldType.int)) (by decide) rfl (Nat.le_of_ble_eq_true rfl) ?_
  intro p e s m below meth c ls hC hr hlk hnm hd hl
  have hC : Cx G p c m s _ "KeyGraphModel" b_Mod_begin 3 := hC
  have hl : lv_has ls 3 [(0, .ref (ad 10 0)), (1, .int w), (2, .int k)] := hl
  have hx := hC.1
  have hb := hC.2.1
  refine lv_aload_n hx hb d_Mod_begin_0 rfl (lv_at hl 0 rfl) ?_
  refine lv_iconst (v := 0) hx hb d_Mod_begin_1 (by decide) ?_
  refine zput (Z' := (si Z 20 0 0)) hC hd (e_mod hm.1) rfl i_Mod t_Mod t_Mod_ok n_Mod 0 (by decide) q_653 (Or.inl rfl) rfl rfl rfl (Nat.le_of_ble_eq_true rfl) (u_mcode hm.1) d_Mod_begin_2 (fun H locs hd => ?_)
  refine lv_iload_n hx hb d_Mod_begin_5 rfl (lv_at hl 1 rfl) ?_
  refine zb_i (r := 0) hd (zrunS (n := 1) (rest := []) hC hd (c_Mod_isWorker l G ad ow (si Z 20 0 0) w 0 hw) q_794 q_795 q_6 q_796 rfl rfl rfl (by decide +kernel) ⟨by decide, by decide⟩ rfl hl.1 (Nat.le_of_ble_eq_true rfl) d_Mod_begin_6 ⟨by decide, by decide⟩) (fun H locs hd => ?_)
  refine lv_if_eq (tgt := 29) hx hb d_Mod_begin_9 (by decide) (fun _ => ?_) (fun c => absurd c (by decide))
  refine lv_iconst (v := (-1)) hx hb d_Mod_begin_29 (by decide) ?_
  exact zfi hC hd hr hlk d_Mod_begin_30 (by unfold m_begin; (repeat (first | (rw [if_pos]; rotate_left; first | assumption | decide) | (rw [if_neg]; rotate_left; first | assumption | decide))) <;> (try rfl)) (by unfold m_begin; (repeat (first | (rw [if_pos]; rotate_left; first | assumption | decide) | (rw [if_neg]; rotate_left; first | assumption | decide))) <;> (try rfl))
set_option maxHeartbeats 4000000 in
theorem c_Mod_begin_nok (l : Launch) (G : Gt) (ad : Nat → Nat → Nat) (ow : Nat → Nat × Nat) (Z : Zt) (hm : ML Z) (u : Nat) (hu : u < 4) (k : Int32) (hw : m_isWorker (nI u) = 1) (h0 : m_isKey Z k = 0) : Met l y_Mod_begin w_Mod_begin ({ frames := 1, cells := 0, slots := 0, locals := 24 }) (zPc G ad ow Z [.ref (ad 10 0), .int (nI u), .int k]) (Qd G ad ow ((m_begin Z (nI u) k).1) (some (.int (m_begin Z (nI u) k).2))) 0 0 (zA G) := by
  refine zopen (cc := b_Mod_begin) (maxL := 3) (ret := (some FieldType.int)) (by decide) rfl (Nat.le_of_ble_eq_true rfl) ?_
  intro p e s m below meth c ls hC hr hlk hnm hd hl
  have hC : Cx G p c m s _ "KeyGraphModel" b_Mod_begin 3 := hC
  have hl : lv_has ls 3 [(0, .ref (ad 10 0)), (1, .int (nI u)), (2, .int k)] := hl
  have hx := hC.1
  have hb := hC.2.1
  have hwn : ¬ m_isWorker (nI u) = 0 := by rw [hw]; decide
  refine lv_aload_n hx hb d_Mod_begin_0 rfl (lv_at hl 0 rfl) ?_
  refine lv_iconst (v := 0) hx hb d_Mod_begin_1 (by decide) ?_
  refine zput (Z' := (si Z 20 0 0)) hC hd (e_mod hm.1) rfl i_Mod t_Mod t_Mod_ok n_Mod 0 (by decide) q_653 (Or.inl rfl) rfl rfl rfl (Nat.le_of_ble_eq_true rfl) (u_mcode hm.1) d_Mod_begin_2 (fun H locs hd => ?_)
  refine lv_iload_n hx hb d_Mod_begin_5 rfl (lv_at hl 1 rfl) ?_
  refine zb_i (r := 1) hd (zrunS (n := 1) (rest := []) hC hd (c_Mod_isWorker l G ad ow (si Z 20 0 0) (nI u) 1 hw) q_794 q_795 q_6 q_796 rfl rfl rfl (by decide +kernel) ⟨by decide, by decide⟩ rfl hl.1 (Nat.le_of_ble_eq_true rfl) d_Mod_begin_6 ⟨by decide, by decide⟩) (fun H locs hd => ?_)
  refine lv_if_eq (tgt := 29) hx hb d_Mod_begin_9 (by decide) (fun c => absurd c (by decide)) (fun _ => ?_)
  refine lv_aload_n hx hb d_Mod_begin_12 rfl (lv_at hl 0 rfl) ?_
  refine lv_iload_n hx hb d_Mod_begin_13 rfl (lv_at hl 2 rfl) ?_
  refine zb_i (r := 0) hd (zrunV (n := 1) (rest := []) hC hd (e_mod hm.1) rfl (c_Mod_isKey_r l G ad ow (si Z 20 0 0) hm k 0 h0) q_750 q_752 qp_18 q_6 q_753 rfl rfl rfl (by decide +kernel) ⟨by decide, by decide⟩ rfl hl.1 (Nat.le_of_ble_eq_true rfl) d_Mod_begin_14 ⟨by decide, by decide⟩) (fun H locs hd => ?_)
  refine lv_if_eq (tgt := 29) hx hb d_Mod_begin_17 (by decide) (fun _ => ?_) (fun c => absurd c (by decide))
  refine lv_iconst (v := (-1)) hx hb d_Mod_begin_29 (by decide) ?_
  exact zfi hC hd hr hlk d_Mod_begin_30 (by unfold m_begin; (repeat (first | (rw [if_pos]; rotate_left; first | assumption | decide) | (rw [if_neg]; rotate_left; first | assumption | decide))) <;> (try rfl)) (by unfold m_begin; (repeat (first | (rw [if_pos]; rotate_left; first | assumption | decide) | (rw [if_neg]; rotate_left; first | assumption | decide))) <;> (try rfl))
set_option maxHeartbeats 4000000 in
theorem c_Mod_begin_yes (l : Launch) (G : Gt) (ad : Nat → Nat → Nat) (ow : Nat → Nat × Nat) (Z : Zt) (hm : ML Z) (hI : MI Z) (u : Nat) (hu : u < 4) (k : Nat) (hk : k < xn Z 20 0) (hw : m_isWorker (nI u) = 1) (h0 : m_isKey Z (nI k) = 1) : Met l y_Mod_begin w_Mod_begin ({ frames := 1, cells := 0, slots := 0, locals := 24 }) (zPc G ad ow Z [.ref (ad 10 0), .int (nI u), .int (nI k)]) (Qd G ad ow ((m_begin Z (nI u) (nI k)).1) (some (.int (m_begin Z (nI u) (nI k)).2))) 0 0 (zA G) := by
  refine zopen (cc := b_Mod_begin) (maxL := 3) (ret := (some FieldType.int)) (by decide) rfl (Nat.le_of_ble_eq_true rfl) ?_
  intro p e s m below meth c ls hC hr hlk hnm hd hl
  have hC : Cx G p c m s _ "KeyGraphModel" b_Mod_begin 3 := hC
  have hl : lv_has ls 3 [(0, .ref (ad 10 0)), (1, .int (nI u)), (2, .int (nI k))] := hl
  have hx := hC.1
  have hb := hC.2.1
  have hwn : ¬ m_isWorker (nI u) = 0 := by rw [hw]; decide
  have h0n : ¬ m_isKey Z (nI k) = 0 := by rw [h0]; decide
  have hkk : k < 40 := by have := hI.1; omega
  have hcl : (nI k).toNatClampNeg = k := nI_clamp (by omega)
  have hcu : (nI u).toNatClampNeg = u := nI_clamp (by omega)
  have h4 := hI.2.2.2.2.2.1 u
  have hI0 : MI (si Z 20 0 0) := hI
  refine lv_aload_n hx hb d_Mod_begin_0 rfl (lv_at hl 0 rfl) ?_
  refine lv_iconst (v := 0) hx hb d_Mod_begin_1 (by decide) ?_
  refine zput (Z' := (si Z 20 0 0)) hC hd (e_mod hm.1) rfl i_Mod t_Mod t_Mod_ok n_Mod 0 (by decide) q_653 (Or.inl rfl) rfl rfl rfl (Nat.le_of_ble_eq_true rfl) (u_mcode hm.1) d_Mod_begin_2 (fun H locs hd => ?_)
  refine lv_iload_n hx hb d_Mod_begin_5 rfl (lv_at hl 1 rfl) ?_
  refine zb_i (r := 1) hd (zrunS (n := 1) (rest := []) hC hd (c_Mod_isWorker l G ad ow (si Z 20 0 0) (nI u) 1 hw) q_794 q_795 q_6 q_796 rfl rfl rfl (by decide +kernel) ⟨by decide, by decide⟩ rfl hl.1 (Nat.le_of_ble_eq_true rfl) d_Mod_begin_6 ⟨by decide, by decide⟩) (fun H locs hd => ?_)
  refine lv_if_eq (tgt := 29) hx hb d_Mod_begin_9 (by decide) (fun c => absurd c (by decide)) (fun _ => ?_)
  refine lv_aload_n hx hb d_Mod_begin_12 rfl (lv_at hl 0 rfl) ?_
  refine lv_iload_n hx hb d_Mod_begin_13 rfl (lv_at hl 2 rfl) ?_
  refine zb_i (r := 1) hd (zrunV (n := 1) (rest := []) hC hd (e_mod hm.1) rfl (c_Mod_isKey_r l G ad ow (si Z 20 0 0) hm (nI k) 1 h0) q_750 q_752 qp_18 q_6 q_753 rfl rfl rfl (by decide +kernel) ⟨by decide, by decide⟩ rfl hl.1 (Nat.le_of_ble_eq_true rfl) d_Mod_begin_14 ⟨by decide, by decide⟩) (fun H locs hd => ?_)
  refine lv_if_eq (tgt := 29) hx hb d_Mod_begin_17 (by decide) (fun c => absurd c (by decide)) (fun _ => ?_)
  refine lv_aload_n hx hb d_Mod_begin_20 rfl (lv_at hl 0 rfl) ?_
  refine zget hC hd (e_mod hm.1) rfl i_Mod 17 (by decide) q_670 (Or.inl rfl) (v := .ref (ad 11 17)) rfl d_Mod_begin_21 ?_
  refine lv_iload_n hx hb d_Mod_begin_24 rfl (lv_at hl 1 rfl) ?_
  refine ziaN (k := u) (f := xn Z 517) hC hd (e_m17 hm.2) (by omega) (by decide) d_Mod_begin_25 ?_
  refine zi_le (x := xn Z 517 u) (tgt := 31) (by omega) hx hb d_Mod_begin_26 (by decide) (fun c26 => ?_) (fun c26 => ?_)
  · have c26' := zi_z c26
    refine lv_aload_n hx hb d_Mod_begin_31 rfl (lv_at hl 0 rfl) ?_
    refine lv_iload_n hx hb d_Mod_begin_32 rfl (lv_at hl 2 rfl) ?_
    refine zb_i (r := (m_pileOf (si Z 20 0 0) k)) hd (zrunV (n := 1) (rest := []) hC hd (e_mod hm.1) rfl (c_Mod_pileOf l G ad ow (si Z 20 0 0) hm hI0 k (by omega) (m_pileOf (si Z 20 0 0) k) rfl) q_797 q_799 qp_25 q_6 q_800 rfl rfl rfl (by decide +kernel) ⟨by decide, by decide⟩ rfl hl.1 (Nat.le_of_ble_eq_true rfl) d_Mod_begin_33 ⟨by decide, by decide⟩) (fun H locs hd => ?_)
    refine lv_iconst (v := (-1)) hx hb d_Mod_begin_36 (by decide) ?_
    refine lv_icmp_eq (tgt := 43) hx hb d_Mod_begin_37 (by decide) (fun c37 => ?_) (fun c37 => ?_)
    · refine lv_aload_n hx hb d_Mod_begin_43 rfl (lv_at hl 0 rfl) ?_
      refine lv_iload_n hx hb d_Mod_begin_44 rfl (lv_at hl 2 rfl) ?_
      refine zb_i (r := (m_isSure Z k)) hd (zrunV (n := 1) (rest := []) hC hd (e_mod hm.1) rfl (c_Mod_isSure l G ad ow (si Z 20 0 0) hm k (by omega) (m_isSure Z k) rfl) q_801 q_803 qp_26 q_6 q_804 rfl rfl rfl (by decide +kernel) ⟨by decide, by decide⟩ rfl hl.1 (Nat.le_of_ble_eq_true rfl) d_Mod_begin_45 ⟨by decide, by decide⟩) (fun H locs hd => ?_)
      refine lv_if_eq (tgt := 53) hx hb d_Mod_begin_48 (by decide) (fun c48 => ?_) (fun c48 => ?_)
      · refine lv_aload_n hx hb d_Mod_begin_53 rfl (lv_at hl 0 rfl) ?_
        refine lv_iload_n hx hb d_Mod_begin_54 rfl (lv_at hl 1 rfl) ?_
        refine lv_iload_n hx hb d_Mod_begin_55 rfl (lv_at hl 2 rfl) ?_
        refine zb_v hd (zrunV (n := 2) (rest := []) hC hd (e_mod hm.1) rfl (c_Mod_lay l G ad ow (si Z 20 0 0) hm u k (by omega) (by omega) (show xn Z 517 u < 40 by omega)) q_805 q_807 qp_27 q_6 q_808 rfl rfl rfl (by decide +kernel) ⟨by decide, by decide⟩ rfl hl.1 (Nat.le_of_ble_eq_true rfl) d_Mod_begin_56 ⟨by decide, by decide⟩) (fun H locs hd => ?_)
        refine lv_iconst (v := 1) hx hb d_Mod_begin_59 (by decide) ?_
        exact zfi hC hd hr hlk d_Mod_begin_60 (by unfold m_begin m0; rw [hcl, hcu]; (repeat (first | (rw [if_pos]; rotate_left; first | assumption | decide) | (rw [if_neg]; rotate_left; first | assumption | decide))) <;> (try rfl)) (by unfold m_begin m0; rw [hcl, hcu]; (repeat (first | (rw [if_pos]; rotate_left; first | assumption | decide) | (rw [if_neg]; rotate_left; first | assumption | decide))) <;> (try rfl))
      · refine lv_iconst (v := 0) hx hb d_Mod_begin_51 (by decide) ?_
        exact zfi hC hd hr hlk d_Mod_begin_52 (by unfold m_begin m0; rw [hcl, hcu]; (repeat (first | (rw [if_pos]; rotate_left; first | assumption | decide) | (rw [if_neg]; rotate_left; first | assumption | decide))) <;> (try rfl)) (by unfold m_begin m0; rw [hcl, hcu]; (repeat (first | (rw [if_pos]; rotate_left; first | assumption | decide) | (rw [if_neg]; rotate_left; first | assumption | decide))) <;> (try rfl))
    · refine lv_bipush (v := (-2)) hx hb d_Mod_begin_40 (by decide) ?_
      exact zfi hC hd hr hlk d_Mod_begin_42 (by unfold m_begin m0; rw [hcl, hcu]; (repeat (first | (rw [if_pos]; rotate_left; first | assumption | decide) | (rw [if_neg]; rotate_left; first | assumption | decide))) <;> (try rfl)) (by unfold m_begin m0; rw [hcl, hcu]; (repeat (first | (rw [if_pos]; rotate_left; first | assumption | decide) | (rw [if_neg]; rotate_left; first | assumption | decide))) <;> (try rfl))
  · have c26' := zi_p c26
    refine lv_iconst (v := (-1)) hx hb d_Mod_begin_29 (by decide) ?_
    exact zfi hC hd hr hlk d_Mod_begin_30 (by unfold m_begin m0; rw [hcl, hcu]; (repeat (first | (rw [if_pos]; rotate_left; first | assumption | decide) | (rw [if_neg]; rotate_left; first | assumption | decide))) <;> (try rfl)) (by unfold m_begin m0; rw [hcl, hcu]; (repeat (first | (rw [if_pos]; rotate_left; first | assumption | decide) | (rw [if_neg]; rotate_left; first | assumption | decide))) <;> (try rfl))
theorem c_Mod_begin (l : Launch) (G : Gt) (ad : Nat → Nat → Nat) (ow : Nat → Nat × Nat) (Z : Zt) (hm : ML Z) (hI : MI Z) (w k : Int32) : Met l y_Mod_begin w_Mod_begin ({ frames := 1, cells := 0, slots := 0, locals := 24 }) (zPc G ad ow Z [.ref (ad 10 0), .int w, .int k]) (Qd G ad ow ((m_begin Z w k).1) (some (.int (m_begin Z w k).2))) 0 0 (zA G) := by
  rcases m_isWorker_cases w with hw | ⟨u, hu, rfl, hw⟩
  · exact c_Mod_begin_now l G ad ow Z hm w k hw
  · rcases m_isKey_cases Z k hI.1 with h0 | ⟨j, hj, rfl, h0⟩
    · exact c_Mod_begin_nok l G ad ow Z hm u hu k hw h0
    · exact c_Mod_begin_yes l G ad ow Z hm hI u hu j hj hw h0
set_option maxHeartbeats 4000000 in
theorem c_Mod_step_no (l : Launch) (G : Gt) (ad : Nat → Nat → Nat) (ow : Nat → Nat × Nat) (Z : Zt) (hm : ML Z) (w : Int32) (hw : m_isWorker w = 0) : Met l y_Mod_step w_Mod_step ({ frames := 4, cells := 0, slots := 0, locals := 96 }) (zPc G ad ow Z [.ref (ad 10 0), .int w]) (Qd G ad ow ((m_step Z w).1) (some (.int (m_step Z w).2))) 0 0 (zA G) := by
  refine zopen (cc := b_Mod_step) (maxL := 2) (ret := (some FieldType.int)) (by decide) rfl (Nat.le_of_ble_eq_true rfl) ?_
  intro p e s m below meth c ls hC hr hlk hnm hd hl
  have hC : Cx G p c m s _ "KeyGraphModel" b_Mod_step 2 := hC
  have hl : lv_has ls 2 [(0, .ref (ad 10 0)), (1, .int w)] := hl
  have hx := hC.1
  have hb := hC.2.1
  refine lv_aload_n hx hb d_Mod_step_0 rfl (lv_at hl 0 rfl) ?_
  refine lv_iconst (v := 0) hx hb d_Mod_step_1 (by decide) ?_
  refine zput (Z' := (si Z 20 0 0)) hC hd (e_mod hm.1) rfl i_Mod t_Mod t_Mod_ok n_Mod 0 (by decide) q_653 (Or.inl rfl) rfl rfl rfl (Nat.le_of_ble_eq_true rfl) (u_mcode hm.1) d_Mod_step_2 (fun H locs hd => ?_)
  refine lv_iload_n hx hb d_Mod_step_5 rfl (lv_at hl 1 rfl) ?_
  refine zb_i (r := 0) hd (zrunS (n := 1) (rest := []) hC hd (c_Mod_isWorker l G ad ow (si Z 20 0 0) w 0 hw) q_794 q_795 q_6 q_796 rfl rfl rfl (by decide +kernel) ⟨by decide, by decide⟩ rfl hl.1 (Nat.le_of_ble_eq_true rfl) d_Mod_step_6 ⟨by decide, by decide⟩) (fun H locs hd => ?_)
  refine lv_if_eq (tgt := 20) hx hb d_Mod_step_9 (by decide) (fun _ => ?_) (fun c => absurd c (by decide))
  refine lv_iconst (v := (-1)) hx hb d_Mod_step_20 (by decide) ?_
  exact zfi hC hd hr hlk d_Mod_step_21 (by unfold m_step; (repeat (first | (rw [if_pos]; rotate_left; first | assumption | decide) | (rw [if_neg]; rotate_left; first | assumption | decide))) <;> (try rfl)) (by unfold m_step; (repeat (first | (rw [if_pos]; rotate_left; first | assumption | decide) | (rw [if_neg]; rotate_left; first | assumption | decide))) <;> (try rfl))
set_option maxHeartbeats 4000000 in
theorem c_Mod_step_yes (l : Launch) (G : Gt) (ad : Nat → Nat → Nat) (ow : Nat → Nat × Nat) (Z : Zt) (hm : ML Z) (u : Nat) (hu : u < 4) (hw : m_isWorker (nI u) = 1) (hI : MI (m0 Z)) (hG : GoOk (m0 Z) u) (hfa : ¬ xn Z 519 (40 * u + xn Z 517 u - 1) = xn Z 510 (xn Z 518 (40 * u + xn Z 517 u - 1)) → xn Z 519 (40 * u + xn Z 517 u - 1) < 8) : Met l y_Mod_step w_Mod_step ({ frames := 4, cells := 0, slots := 0, locals := 96 }) (zPc G ad ow Z [.ref (ad 10 0), .int (nI u)]) (Qd G ad ow ((m_step Z (nI u)).1) (some (.int (m_step Z (nI u)).2))) 0 0 (zA G) := by
  refine zopen (cc := b_Mod_step) (maxL := 2) (ret := (some FieldType.int)) (by decide) rfl (Nat.le_of_ble_eq_true rfl) ?_
  intro p e s m below meth c ls hC hr hlk hnm hd hl
  have hC : Cx G p c m s _ "KeyGraphModel" b_Mod_step 2 := hC
  have hl : lv_has ls 2 [(0, .ref (ad 10 0)), (1, .int (nI u))] := hl
  have hx := hC.1
  have hb := hC.2.1
  have hwn : ¬ m_isWorker (nI u) = 0 := by rw [hw]; decide
  have hcu : (nI u).toNatClampNeg = u := nI_clamp (by omega)
  refine lv_aload_n hx hb d_Mod_step_0 rfl (lv_at hl 0 rfl) ?_
  refine lv_iconst (v := 0) hx hb d_Mod_step_1 (by decide) ?_
  refine zput (Z' := (si Z 20 0 0)) hC hd (e_mod hm.1) rfl i_Mod t_Mod t_Mod_ok n_Mod 0 (by decide) q_653 (Or.inl rfl) rfl rfl rfl (Nat.le_of_ble_eq_true rfl) (u_mcode hm.1) d_Mod_step_2 (fun H locs hd => ?_)
  refine lv_iload_n hx hb d_Mod_step_5 rfl (lv_at hl 1 rfl) ?_
  refine zb_i (r := 1) hd (zrunS (n := 1) (rest := []) hC hd (c_Mod_isWorker l G ad ow (si Z 20 0 0) (nI u) 1 hw) q_794 q_795 q_6 q_796 rfl rfl rfl (by decide +kernel) ⟨by decide, by decide⟩ rfl hl.1 (Nat.le_of_ble_eq_true rfl) d_Mod_step_6 ⟨by decide, by decide⟩) (fun H locs hd => ?_)
  refine lv_if_eq (tgt := 20) hx hb d_Mod_step_9 (by decide) (fun c => absurd c (by decide)) (fun _ => ?_)
  refine lv_aload_n hx hb d_Mod_step_12 rfl (lv_at hl 0 rfl) ?_
  refine lv_iload_n hx hb d_Mod_step_13 rfl (lv_at hl 1 rfl) ?_
  refine zb_i (r := ((m_go (si Z 20 0 0) u).2)) hd (zrunV (n := 1) (rest := []) hC hd (e_mod hm.1) rfl (c_Mod_go l G ad ow (si Z 20 0 0) hm hI u (by omega) hG hfa) q_817 q_819 qp_28 q_6 q_820 rfl rfl rfl (by decide +kernel) ⟨by decide, by decide⟩ rfl hl.1 (Nat.le_of_ble_eq_true rfl) d_Mod_step_14 ⟨by decide, by decide⟩) (fun H locs hd => ?_)
  refine lv_goto (tgt := 21) hx hb d_Mod_step_17 (by decide) ?_
  exact zfi hC hd hr hlk d_Mod_step_21 (by unfold m_step m0; rw [hcu]; (repeat (first | (rw [if_pos]; rotate_left; first | assumption | decide) | (rw [if_neg]; rotate_left; first | assumption | decide))) <;> (try rfl)) (by unfold m_step m0; rw [hcu]; (repeat (first | (rw [if_pos]; rotate_left; first | assumption | decide) | (rw [if_neg]; rotate_left; first | assumption | decide))) <;> (try rfl))
