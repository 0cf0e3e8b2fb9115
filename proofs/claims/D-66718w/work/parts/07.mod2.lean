def m_isSure (Z : Zt) (k : Nat) : Int32 := if xi Z 503 k = -1 then 1 else if xi Z 516 k = 0 then 0 else if xi Z 507 k = xi Z 21 0 then 1 else 0
def m_isWorker (w : Int32) : Int32 := if w < 0 then 0 else if 4 ≤ w then 0 else 1
def m_empty (Z : Zt) : Zt := sn (sn (sn (sn (sn Z 517 0 0) 517 1 0) 517 2 0) 517 3 0) 517 4 0
def m_emptyN (Z : Zt) : Nat := ((((0 + xn Z 517 0) + xn Z 517 1) + xn Z 517 2) + xn Z 517 3) + xn Z 517 4
def m_next (Z : Zt) : Zt := si (m_empty Z) 21 0 (xi Z 21 0 + 1)
def m_worksV (Z : Zt) (k : Nat) : Int32 := if xi Z 516 k = 0 then 1 else if xi Z 509 k ≤ xi Z 507 k then 0 else 1
def m_lay (Z : Zt) (p k : Nat) : Zt := sn (sn (si (sn Z 518 (40 * p + xn Z 517 p) k) 521 (40 * p + xn Z 517 p) (m_worksV Z k)) 519 (40 * p + xn Z 517 p) 0) 517 p (xn Z 517 p + 1)
def m_taken (Z : Zt) (e i : Nat) : Int64 := xl Z 514 (xn Z 505 (8 * xn Z 518 e + xn Z 520 (8 * e + i)))
def m_rem (v : Int64) (n : Nat) : Int32 := if 0 ≤ (v - v / (nI n).toInt64 * (nI n).toInt64).toInt32 then (v - v / (nI n).toInt64 * (nI n).toInt64).toInt32 else (v - v / (nI n).toInt64 * (nI n).toInt64).toInt32 + nI n
/-! pileOf -/
def m_pf (Z : Zt) (k p : Nat) : Nat → Int32 → Nat → Int32
  | _, g, 0 => g
  | i, g, n + 1 => m_pf Z k p (i + 1) (if xn Z 518 (40 * p + i) = k then nI p else g) n
def m_po (Z : Zt) (k : Nat) : Nat → Int32 → Nat → Int32
  | _, g, 0 => g
  | p, g, n + 1 => m_po Z k (p + 1) (m_pf Z k p 0 g (xn Z 517 p)) n
def m_pileOf (Z : Zt) (k : Nat) : Int32 := m_po Z k 0 (-1) 5
def m_await (Z : Zt) (p k : Nat) : Zt × Int32 := if m_pileOf Z k = -1 then (m_lay Z p k, 1) else (Z, 3)

set_option maxHeartbeats 4000000 in
theorem c_Mod_rowKey (l : Launch) (G : Gt) (ad : Nat → Nat → Nat) (ow : Nat → Nat × Nat) (Z : Zt) (hm : ML Z) (k j : Nat) (hk : k < 40) (hj : j < 8) : Met l y_Mod_rowKey w_Mod_rowKey ({ frames := 0, cells := 0, slots := 0, locals := 0 }) (zPc G ad ow Z [.ref (ad 10 0), .int (nI k), .int (nI j)]) (Qd G ad ow Z (some (.int (nI (xn Z 505 (8 * k + j)))))) 0 0 (zA G) := by
  refine zopen (cc := b_Mod_rowKey) (maxL := 3) (ret := (some FieldType.int)) (by decide) rfl (Nat.le_of_ble_eq_true rfl) ?_
  intro p e s m below meth c ls hC hr hlk hnm hd hl
  have hC : Cx G p c m s _ "KeyGraphModel" b_Mod_rowKey 3 := hC
  have hl : lv_has ls 3 [(0, .ref (ad 10 0)), (1, .int (nI k)), (2, .int (nI j))] := hl
  have hx := hC.1
  have hb := hC.2.1
  refine lv_aload_n hx hb d_Mod_rowKey_0 rfl (lv_at hl 0 rfl) ?_
  refine zget hC hd (e_mod hm.1) rfl i_Mod 5 (by decide) q_658 (Or.inl rfl) (v := .ref (ad 11 5)) rfl d_Mod_rowKey_1 ?_
  refine lv_bipush (v := 8) hx hb d_Mod_rowKey_4 (by decide) ?_
  refine lv_iload_n hx hb d_Mod_rowKey_6 rfl (lv_at hl 1 rfl) ?_
  refine zmulN (x := 8) (y := k) hx hb d_Mod_rowKey_7 ?_
  refine lv_iload_n hx hb d_Mod_rowKey_8 rfl (lv_at hl 2 rfl) ?_
  refine zaddN (x := 8 * k) (y := j) hx hb d_Mod_rowKey_9 ?_
  refine ziaN (k := (8 * k) + j) (f := xn Z 505) hC hd (e_m5 hm.2) (by omega) (by decide) d_Mod_rowKey_10 ?_
  exact zfi hC hd hr hlk d_Mod_rowKey_11 rfl rfl
set_option maxHeartbeats 4000000 in
theorem c_Mod_isSure (l : Launch) (G : Gt) (ad : Nat → Nat → Nat) (ow : Nat → Nat × Nat) (Z : Zt) (hm : ML Z) (k : Nat) (hk : k < 40) (r : Int32) (h : m_isSure Z k = r) : Met l y_Mod_isSure w_Mod_isSure ({ frames := 0, cells := 0, slots := 0, locals := 0 }) (zPc G ad ow Z [.ref (ad 10 0), .int (nI k)]) (Qd G ad ow Z (some (.int r))) 0 0 (zA G) := by
  refine zopen (cc := b_Mod_isSure) (maxL := 2) (ret := (some FieldType.boolean)) (by decide) rfl (Nat.le_of_ble_eq_true rfl) ?_
  intro p e s m below meth c ls hC hr hlk hnm hd hl
  have hC : Cx G p c m s _ "KeyGraphModel" b_Mod_isSure 2 := hC
  have hl : lv_has ls 2 [(0, .ref (ad 10 0)), (1, .int (nI k))] := hl
  have hx := hC.1
  have hb := hC.2.1
  refine lv_aload_n hx hb d_Mod_isSure_0 rfl (lv_at hl 0 rfl) ?_
  refine zget hC hd (e_mod hm.1) rfl i_Mod 3 (by decide) q_656 (Or.inl rfl) (v := .ref (ad 11 3)) rfl d_Mod_isSure_1 ?_
  refine lv_iload_n hx hb d_Mod_isSure_4 rfl (lv_at hl 1 rfl) ?_
  refine ziaI (k := k) (f := xi Z 503) hC hd (e_m3 hm.2) (by omega) (by decide) d_Mod_isSure_5 ?_
  refine lv_iconst (v := (-1)) hx hb d_Mod_isSure_6 (by decide) ?_
  refine lv_icmp_eq (tgt := 32) hx hb d_Mod_isSure_7 (by decide) (fun c7 => ?_) (fun c7 => ?_)
  · refine lv_iconst (v := 1) hx hb d_Mod_isSure_32 (by decide) ?_
    refine lv_goto (tgt := 37) hx hb d_Mod_isSure_33 (by decide) ?_
    exact zfz hC hd hr hlk d_Mod_isSure_37 (by decide) (by rw [← h]; simp only [m_isSure]; simp [c7]) rfl
  · refine lv_aload_n hx hb d_Mod_isSure_10 rfl (lv_at hl 0 rfl) ?_
    refine zget hC hd (e_mod hm.1) rfl i_Mod 16 (by decide) q_669 (Or.inl rfl) (v := .ref (ad 11 16)) rfl d_Mod_isSure_11 ?_
    refine lv_iload_n hx hb d_Mod_isSure_14 rfl (lv_at hl 1 rfl) ?_
    refine zzaI (k := k) (f := xi Z 516) hC hd (e_m16 hm.2) (by omega) (by decide) d_Mod_isSure_15 ?_
    refine lv_if_eq (tgt := 36) hx hb d_Mod_isSure_16 (by decide) (fun c16 => ?_) (fun c16 => ?_)
    · refine lv_iconst (v := 0) hx hb d_Mod_isSure_36 (by decide) ?_
      exact zfz hC hd hr hlk d_Mod_isSure_37 (by decide) (by rw [← h]; simp only [m_isSure]; simp [c7, c16]) rfl
    · refine lv_aload_n hx hb d_Mod_isSure_19 rfl (lv_at hl 0 rfl) ?_
      refine zget hC hd (e_mod hm.1) rfl i_Mod 7 (by decide) q_660 (Or.inl rfl) (v := .ref (ad 11 7)) rfl d_Mod_isSure_20 ?_
      refine lv_iload_n hx hb d_Mod_isSure_23 rfl (lv_at hl 1 rfl) ?_
      refine ziaI (k := k) (f := xi Z 507) hC hd (e_m7 hm.2) (by omega) (by decide) d_Mod_isSure_24 ?_
      refine lv_aload_n hx hb d_Mod_isSure_25 rfl (lv_at hl 0 rfl) ?_
      refine zget hC hd (e_mod hm.1) rfl i_Mod 1 (by decide) q_654 (Or.inl rfl) (v := .int (xi Z 21 0)) rfl d_Mod_isSure_26 ?_
      refine lv_icmp_ne (tgt := 36) hx hb d_Mod_isSure_29 (by decide) (fun c29 => ?_) (fun c29 => ?_)
      · refine lv_iconst (v := 0) hx hb d_Mod_isSure_36 (by decide) ?_
        exact zfz hC hd hr hlk d_Mod_isSure_37 (by decide) (by rw [← h]; simp only [m_isSure]; simp [c7, c16, c29]) rfl
      · refine lv_iconst (v := 1) hx hb d_Mod_isSure_32 (by decide) ?_
        refine lv_goto (tgt := 37) hx hb d_Mod_isSure_33 (by decide) ?_
        exact zfz hC hd hr hlk d_Mod_isSure_37 (by decide) (by rw [← h]; simp only [m_isSure]; simp [c7, c16, c29]) rfl
set_option maxHeartbeats 4000000 in
theorem c_Mod_isWorker (l : Launch) (G : Gt) (ad : Nat → Nat → Nat) (ow : Nat → Nat × Nat) (Z : Zt) (w r : Int32) (h : m_isWorker w = r) : Met l y_Mod_isWorker w_Mod_isWorker ({ frames := 0, cells := 0, slots := 0, locals := 0 }) (zPc G ad ow Z [.int w]) (Qd G ad ow Z (some (.int r))) 0 0 (zA G) := by
  refine zopen (cc := b_Mod_isWorker) (maxL := 1) (ret := (some FieldType.boolean)) (by decide) rfl (Nat.le_of_ble_eq_true rfl) ?_
  intro p e s m below meth c ls hC hr hlk hnm hd hl
  have hC : Cx G p c m s _ "KeyGraphModel" b_Mod_isWorker 1 := hC
  have hl : lv_has ls 1 [(0, .int w)] := hl
  have hx := hC.1
  have hb := hC.2.1
  refine lv_iload_n hx hb d_Mod_isWorker_0 rfl (lv_at hl 0 rfl) ?_
  refine lv_if_lt (tgt := 13) hx hb d_Mod_isWorker_1 (by decide) (fun c1 => ?_) (fun c1 => ?_)
  · refine lv_iconst (v := 0) hx hb d_Mod_isWorker_13 (by decide) ?_
    exact zfz hC hd hr hlk d_Mod_isWorker_14 (by decide) (by rw [← h]; simp only [m_isWorker]; simp [c1]) rfl
  · refine lv_iload_n hx hb d_Mod_isWorker_4 rfl (lv_at hl 0 rfl) ?_
    refine lv_iconst (v := 4) hx hb d_Mod_isWorker_5 (by decide) ?_
    refine lv_icmp_ge (tgt := 13) hx hb d_Mod_isWorker_6 (by decide) (fun c6 => ?_) (fun c6 => ?_)
    · refine lv_iconst (v := 0) hx hb d_Mod_isWorker_13 (by decide) ?_
      exact zfz hC hd hr hlk d_Mod_isWorker_14 (by decide) (by rw [← h]; simp only [m_isWorker]; simp [c1, c6]) rfl
    · refine lv_iconst (v := 1) hx hb d_Mod_isWorker_9 (by decide) ?_
      refine lv_goto (tgt := 14) hx hb d_Mod_isWorker_10 (by decide) ?_
      exact zfz hC hd hr hlk d_Mod_isWorker_14 (by decide) (by rw [← h]; simp only [m_isWorker]; simp [c1, c6]) rfl
set_option maxHeartbeats 4000000 in
theorem c_Mod_empty (l : Launch) (G : Gt) (ad : Nat → Nat → Nat) (ow : Nat → Nat × Nat) (Z : Zt) (hm : ML Z) : Met l y_Mod_empty w_Mod_empty ({ frames := 0, cells := 0, slots := 0, locals := 0 }) (zPc G ad ow Z [.ref (ad 10 0)]) (Qd G ad ow (m_empty Z) (some (.int (nI (m_emptyN Z))))) 0 0 (zA G) := by
  refine zopen (cc := b_Mod_empty) (maxL := 3) (ret := (some FieldType.int)) (by decide) rfl (Nat.le_of_ble_eq_true rfl) ?_
  intro p e s m below meth c ls hC hr hlk hnm hd hl
  have hC : Cx G p c m s _ "KeyGraphModel" b_Mod_empty 3 := hC
  have hl : lv_has ls 3 [(0, .ref (ad 10 0))] := hl
  have hx := hC.1
  have hb := hC.2.1
  refine lv_iconst (v := 0) hx hb d_Mod_empty_0 (by decide) ?_
  refine lv_istore_n (lv' := [(1, .int 0), (0, .ref (ad 10 0))]) hx hb d_Mod_empty_1 rfl hl (by decide) rfl (fun ls hl => ?_)
  refine lv_iconst (v := 0) hx hb d_Mod_empty_2 (by decide) ?_
  refine lv_istore_n (lv' := [(2, .int 0), (1, .int 0), (0, .ref (ad 10 0))]) hx hb d_Mod_empty_3 rfl hl (by decide) rfl (fun ls hl => ?_)
  refine lv_iload_n hx hb d_Mod_empty_4 rfl (lv_at hl 0 rfl) ?_
  refine lv_iconst (v := 5) hx hb d_Mod_empty_5 (by decide) ?_
  refine lv_icmp_ge (tgt := 31) hx hb d_Mod_empty_6 (by decide) (fun c => absurd c (by decide)) (fun _ => ?_)
  refine lv_iload_n hx hb d_Mod_empty_9 rfl (lv_at hl 1 rfl) ?_
  refine lv_aload_n hx hb d_Mod_empty_10 rfl (lv_at hl 2 rfl) ?_
  refine zget hC hd (e_mod hm.1) rfl i_Mod 17 (by decide) q_670 (Or.inl rfl) (v := .ref (ad 11 17)) rfl d_Mod_empty_11 ?_
  refine lv_iload_n hx hb d_Mod_empty_14 rfl (lv_at hl 0 rfl) ?_
  refine ziaN (k := 0) (f := xn Z 517) hC hd (e_m17 hm.2) (by omega) (by decide) d_Mod_empty_15 ?_
  refine zaddN (x := 0) (y := xn Z 517 0) hx hb d_Mod_empty_16 ?_
  refine lv_istore_n (lv' := [(1, .int (nI (0 + (xn Z 517 0)))), (2, .int 0), (0, .ref (ad 10 0))]) hx hb d_Mod_empty_17 rfl hl (by decide) rfl (fun ls hl => ?_)
  refine lv_aload_n hx hb d_Mod_empty_18 rfl (lv_at hl 2 rfl) ?_
  refine zget hC hd (e_mod hm.1) rfl i_Mod 17 (by decide) q_670 (Or.inl rfl) (v := .ref (ad 11 17)) rfl d_Mod_empty_19 ?_
  refine lv_iload_n hx hb d_Mod_empty_22 rfl (lv_at hl 1 rfl) ?_
  refine lv_iconst (v := 0) hx hb d_Mod_empty_23 (by decide) ?_
  refine ziaS (k := 0) (Z' := (sn Z 517 0 0)) hC hd (e_m17 hm.2) (by omega) (by decide) (u_m17 hm.2) d_Mod_empty_24 (fun H locs hd => ?_)
  refine lv_iinc (v := 1) (lv' := [(2, .int 1), (1, .int (nI (0 + (xn Z 517 0)))), (0, .ref (ad 10 0))]) hx hb d_Mod_empty_25 hl (k := 1) rfl (by decide) (by decide) rfl (fun ls hl => ?_)
  refine lv_goto (tgt := 4) hx hb d_Mod_empty_28 (by decide) ?_
  refine lv_iload_n hx hb d_Mod_empty_4 rfl (lv_at hl 0 rfl) ?_
  refine lv_iconst (v := 5) hx hb d_Mod_empty_5 (by decide) ?_
  refine lv_icmp_ge (tgt := 31) hx hb d_Mod_empty_6 (by decide) (fun c => absurd c (by decide)) (fun _ => ?_)
  refine lv_iload_n hx hb d_Mod_empty_9 rfl (lv_at hl 1 rfl) ?_
  refine lv_aload_n hx hb d_Mod_empty_10 rfl (lv_at hl 2 rfl) ?_
  refine zget hC hd (e_mod hm.1) rfl i_Mod 17 (by decide) q_670 (Or.inl rfl) (v := .ref (ad 11 17)) rfl d_Mod_empty_11 ?_
  refine lv_iload_n hx hb d_Mod_empty_14 rfl (lv_at hl 0 rfl) ?_
  refine ziaN (k := 1) hC hd (e_m17 hm.2) (by omega) (by decide) d_Mod_empty_15 ?_
  refine zaddN (x := 0 + (xn Z 517 0)) (y := xn Z 517 1) hx hb d_Mod_empty_16 ?_
  refine lv_istore_n (lv' := [(1, .int (nI ((0 + (xn Z 517 0)) + (xn Z 517 1)))), (2, .int 1), (0, .ref (ad 10 0))]) hx hb d_Mod_empty_17 rfl hl (by decide) rfl (fun ls hl => ?_)
  refine lv_aload_n hx hb d_Mod_empty_18 rfl (lv_at hl 2 rfl) ?_
  refine zget hC hd (e_mod hm.1) rfl i_Mod 17 (by decide) q_670 (Or.inl rfl) (v := .ref (ad 11 17)) rfl d_Mod_empty_19 ?_
  refine lv_iload_n hx hb d_Mod_empty_22 rfl (lv_at hl 1 rfl) ?_
  refine lv_iconst (v := 0) hx hb d_Mod_empty_23 (by decide) ?_
  refine ziaS (k := 1) (Z' := (sn (sn Z 517 0 0) 517 1 0)) hC hd (e_m17 hm.2) (by omega) (by decide) (u_m17 hm.2) d_Mod_empty_24 (fun H locs hd => ?_)
  refine lv_iinc (v := 2) (lv' := [(2, .int 2), (1, .int (nI ((0 + (xn Z 517 0)) + (xn Z 517 1)))), (0, .ref (ad 10 0))]) hx hb d_Mod_empty_25 hl (k := 1) rfl (by decide) (by decide) rfl (fun ls hl => ?_)
  refine lv_goto (tgt := 4) hx hb d_Mod_empty_28 (by decide) ?_
  refine lv_iload_n hx hb d_Mod_empty_4 rfl (lv_at hl 0 rfl) ?_
  refine lv_iconst (v := 5) hx hb d_Mod_empty_5 (by decide) ?_
  refine lv_icmp_ge (tgt := 31) hx hb d_Mod_empty_6 (by decide) (fun c => absurd c (by decide)) (fun _ => ?_)
  refine lv_iload_n hx hb d_Mod_empty_9 rfl (lv_at hl 1 rfl) ?_
  refine lv_aload_n hx hb d_Mod_empty_10 rfl (lv_at hl 2 rfl) ?_
  refine zget hC hd (e_mod hm.1) rfl i_Mod 17 (by decide) q_670 (Or.inl rfl) (v := .ref (ad 11 17)) rfl d_Mod_empty_11 ?_
  refine lv_iload_n hx hb d_Mod_empty_14 rfl (lv_at hl 0 rfl) ?_
  refine ziaN (k := 2) hC hd (e_m17 hm.2) (by omega) (by decide) d_Mod_empty_15 ?_
  refine zaddN (x := (0 + (xn Z 517 0)) + (xn Z 517 1)) (y := xn Z 517 2) hx hb d_Mod_empty_16 ?_
  refine lv_istore_n (lv' := [(1, .int (nI (((0 + (xn Z 517 0)) + (xn Z 517 1)) + (xn Z 517 2)))), (2, .int 2), (0, .ref (ad 10 0))]) hx hb d_Mod_empty_17 rfl hl (by decide) rfl (fun ls hl => ?_)
  refine lv_aload_n hx hb d_Mod_empty_18 rfl (lv_at hl 2 rfl) ?_
  refine zget hC hd (e_mod hm.1) rfl i_Mod 17 (by decide) q_670 (Or.inl rfl) (v := .ref (ad 11 17)) rfl d_Mod_empty_19 ?_
  refine lv_iload_n hx hb d_Mod_empty_22 rfl (lv_at hl 1 rfl) ?_
  refine lv_iconst (v := 0) hx hb d_Mod_empty_23 (by decide) ?_
  refine ziaS (k := 2) (Z' := (sn (sn (sn Z 517 0 0) 517 1 0) 517 2 0)) hC hd (e_m17 hm.2) (by omega) (by decide) (u_m17 hm.2) d_Mod_empty_24 (fun H locs hd => ?_)
  refine lv_iinc (v := 3) (lv' := [(2, .int 3), (1, .int (nI (((0 + (xn Z 517 0)) + (xn Z 517 1)) + (xn Z 517 2)))), (0, .ref (ad 10 0))]) hx hb d_Mod_empty_25 hl (k := 1) rfl (by decide) (by decide) rfl (fun ls hl => ?_)
  refine lv_goto (tgt := 4) hx hb d_Mod_empty_28 (by decide) ?_
  refine lv_iload_n hx hb d_Mod_empty_4 rfl (lv_at hl 0 rfl) ?_
  refine lv_iconst (v := 5) hx hb d_Mod_empty_5 (by decide) ?_
  refine lv_icmp_ge (tgt := 31) hx hb d_Mod_empty_6 (by decide) (fun c => absurd c (by decide)) (fun _ => ?_)
  refine lv_iload_n hx hb d_Mod_empty_9 rfl (lv_at hl 1 rfl) ?_
  refine lv_aload_n hx hb d_Mod_empty_10 rfl (lv_at hl 2 rfl) ?_
  refine zget hC hd (e_mod hm.1) rfl i_Mod 17 (by decide) q_670 (Or.inl rfl) (v := .ref (ad 11 17)) rfl d_Mod_empty_11 ?_
  refine lv_iload_n hx hb d_Mod_empty_14 rfl (lv_at hl 0 rfl) ?_
  refine ziaN (k := 3) hC hd (e_m17 hm.2) (by omega) (by decide) d_Mod_empty_15 ?_
  refine zaddN (x := ((0 + (xn Z 517 0)) + (xn Z 517 1)) + (xn Z 517 2)) (y := xn Z 517 3) hx hb d_Mod_empty_16 ?_
  refine lv_istore_n (lv' := [(1, .int (nI ((((0 + (xn Z 517 0)) + (xn Z 517 1)) + (xn Z 517 2)) + (xn Z 517 3)))), (2, .int 3), (0, .ref (ad 10 0))]) hx hb d_Mod_empty_17 rfl hl (by decide) rfl (fun ls hl => ?_)
  refine lv_aload_n hx hb d_Mod_empty_18 rfl (lv_at hl 2 rfl) ?_
  refine zget hC hd (e_mod hm.1) rfl i_Mod 17 (by decide) q_670 (Or.inl rfl) (v := .ref (ad 11 17)) rfl d_Mod_empty_19 ?_
  refine lv_iload_n hx hb d_Mod_empty_22 rfl (lv_at hl 1 rfl) ?_
  refine lv_iconst (v := 0) hx hb d_Mod_empty_23 (by decide) ?_
  refine ziaS (k := 3) (Z' := (sn (sn (sn (sn Z 517 0 0) 517 1 0) 517 2 0) 517 3 0)) hC hd (e_m17 hm.2) (by omega) (by decide) (u_m17 hm.2) d_Mod_empty_24 (fun H locs hd => ?_)
  refine lv_iinc (v := 4) (lv' := [(2, .int 4), (1, .int (nI ((((0 + (xn Z 517 0)) + (xn Z 517 1)) + (xn Z 517 2)) + (xn Z 517 3)))), (0, .ref (ad 10 0))]) hx hb d_Mod_empty_25 hl (k := 1) rfl (by decide) (by decide) rfl (fun ls hl => ?_)
  refine lv_goto (tgt := 4) hx hb d_Mod_empty_28 (by decide) ?_
  refine lv_iload_n hx hb d_Mod_empty_4 rfl (lv_at hl 0 rfl) ?_
  refine lv_iconst (v := 5) hx hb d_Mod_empty_5 (by decide) ?_
  refine lv_icmp_ge (tgt := 31) hx hb d_Mod_empty_6 (by decide) (fun c => absurd c (by decide)) (fun _ => ?_)
  refine lv_iload_n hx hb d_Mod_empty_9 rfl (lv_at hl 1 rfl) ?_
  refine lv_aload_n hx hb d_Mod_empty_10 rfl (lv_at hl 2 rfl) ?_
  refine zget hC hd (e_mod hm.1) rfl i_Mod 17 (by decide) q_670 (Or.inl rfl) (v := .ref (ad 11 17)) rfl d_Mod_empty_11 ?_
  refine lv_iload_n hx hb d_Mod_empty_14 rfl (lv_at hl 0 rfl) ?_
  refine ziaN (k := 4) hC hd (e_m17 hm.2) (by omega) (by decide) d_Mod_empty_15 ?_
  refine zaddN (x := (((0 + (xn Z 517 0)) + (xn Z 517 1)) + (xn Z 517 2)) + (xn Z 517 3)) (y := xn Z 517 4) hx hb d_Mod_empty_16 ?_
  refine lv_istore_n (lv' := [(1, .int (nI (((((0 + (xn Z 517 0)) + (xn Z 517 1)) + (xn Z 517 2)) + (xn Z 517 3)) + (xn Z 517 4)))), (2, .int 4), (0, .ref (ad 10 0))]) hx hb d_Mod_empty_17 rfl hl (by decide) rfl (fun ls hl => ?_)
  refine lv_aload_n hx hb d_Mod_empty_18 rfl (lv_at hl 2 rfl) ?_
  refine zget hC hd (e_mod hm.1) rfl i_Mod 17 (by decide) q_670 (Or.inl rfl) (v := .ref (ad 11 17)) rfl d_Mod_empty_19 ?_
  refine lv_iload_n hx hb d_Mod_empty_22 rfl (lv_at hl 1 rfl) ?_
  refine lv_iconst (v := 0) hx hb d_Mod_empty_23 (by decide) ?_
  refine ziaS (k := 4) (Z' := (sn (sn (sn (sn (sn Z 517 0 0) 517 1 0) 517 2 0) 517 3 0) 517 4 0)) hC hd (e_m17 hm.2) (by omega) (by decide) (u_m17 hm.2) d_Mod_empty_24 (fun H locs hd => ?_)
  refine lv_iinc (v := 5) (lv' := [(2, .int 5), (1, .int (nI (((((0 + (xn Z 517 0)) + (xn Z 517 1)) + (xn Z 517 2)) + (xn Z 517 3)) + (xn Z 517 4)))), (0, .ref (ad 10 0))]) hx hb d_Mod_empty_25 hl (k := 1) rfl (by decide) (by decide) rfl (fun ls hl => ?_)
  refine lv_goto (tgt := 4) hx hb d_Mod_empty_28 (by decide) ?_
  refine lv_iload_n hx hb d_Mod_empty_4 rfl (lv_at hl 0 rfl) ?_
  refine lv_iconst (v := 5) hx hb d_Mod_empty_5 (by decide) ?_
  refine lv_icmp_ge (tgt := 31) hx hb d_Mod_empty_6 (by decide) (fun _ => ?_) (fun c => absurd c (by decide))
  refine lv_iload_n hx hb d_Mod_empty_31 rfl (lv_at hl 1 rfl) ?_
  exact zfi hC hd hr hlk d_Mod_empty_32 rfl rfl
set_option maxHeartbeats 4000000 in
theorem c_Mod_next (l : Launch) (G : Gt) (ad : Nat → Nat → Nat) (ow : Nat → Nat × Nat) (Z : Zt) (hm : ML Z) : Met l y_Mod_next w_Mod_next ({ frames := 1, cells := 0, slots := 0, locals := 22 }) (zPc G ad ow Z [.ref (ad 10 0)]) (Qd G ad ow (m_next Z) (some (.int (xi Z 21 0 + 1)))) 0 0 (zA G) := by
  refine zopen (cc := b_Mod_next) (maxL := 1) (ret := (some FieldType.int)) (by decide) rfl (Nat.le_of_ble_eq_true rfl) ?_
  intro p e s m below meth c ls hC hr hlk hnm hd hl
  have hC : Cx G p c m s _ "KeyGraphModel" b_Mod_next 1 := hC
  have hl : lv_has ls 1 [(0, .ref (ad 10 0))] := hl
  have hx := hC.1
  have hb := hC.2.1
  refine lv_aload_n hx hb d_Mod_next_0 rfl (lv_at hl 0 rfl) ?_
  refine zb_i (r := (nI (m_emptyN Z))) hd (zrunV (n := 0) (rest := []) hC hd (e_mod hm.1) rfl (c_Mod_empty l G ad ow Z hm) q_774 q_776 qp_24 q_6 q_777 rfl rfl rfl (by decide +kernel) ⟨by decide, by decide⟩ rfl hl.1 (Nat.le_of_ble_eq_true rfl) d_Mod_next_1 ⟨by decide, by decide⟩) (fun H locs hd => ?_)
  refine lv_pop hx hb d_Mod_next_4 rfl ?_
  refine lv_aload_n hx hb d_Mod_next_5 rfl (lv_at hl 0 rfl) ?_
  refine lv_dup hx hb d_Mod_next_6 rfl ?_
  refine zget hC hd (e_mod hm.1) rfl i_Mod 1 (by decide) q_654 (Or.inl rfl) (v := .int (xi (m_empty Z) 21 0)) rfl d_Mod_next_7 ?_
  refine lv_iconst (v := 1) hx hb d_Mod_next_10 (by decide) ?_
  refine lv_iadd hx hb d_Mod_next_11 ?_
  refine zput (Z' := (si (m_empty Z) 21 0 ((xi (m_empty Z) 21 0) + 1))) hC hd (e_mod hm.1) rfl i_Mod t_Mod t_Mod_ok n_Mod 1 (by decide) q_654 (Or.inl rfl) rfl rfl rfl (Nat.le_of_ble_eq_true rfl) (u_mver hm.1) d_Mod_next_12 (fun H locs hd => ?_)
  refine lv_aload_n hx hb d_Mod_next_15 rfl (lv_at hl 0 rfl) ?_
  refine zget hC hd (e_mod hm.1) rfl i_Mod 1 (by decide) q_654 (Or.inl rfl) (v := .int ((xi (m_empty Z) 21 0) + 1)) rfl d_Mod_next_16 ?_
  exact zfi hC hd hr hlk d_Mod_next_19 rfl rfl
set_option maxHeartbeats 4000000 in
theorem c_Mod_cancel (l : Launch) (G : Gt) (ad : Nat → Nat → Nat) (ow : Nat → Nat × Nat) (Z : Zt) (hm : ML Z) : Met l y_Mod_cancel w_Mod_cancel ({ frames := 1, cells := 0, slots := 0, locals := 22 }) (zPc G ad ow Z [.ref (ad 10 0)]) (Qd G ad ow (m_empty (m0 Z)) (some (.int (nI (m_emptyN Z))))) 0 0 (zA G) := by
  refine zopen (cc := b_Mod_cancel) (maxL := 1) (ret := (some FieldType.int)) (by decide) rfl (Nat.le_of_ble_eq_true rfl) ?_
  intro p e s m below meth c ls hC hr hlk hnm hd hl
  have hC : Cx G p c m s _ "KeyGraphModel" b_Mod_cancel 1 := hC
  have hl : lv_has ls 1 [(0, .ref (ad 10 0))] := hl
  have hx := hC.1
  have hb := hC.2.1
  refine lv_aload_n hx hb d_Mod_cancel_0 rfl (lv_at hl 0 rfl) ?_
  refine lv_iconst (v := 0) hx hb d_Mod_cancel_1 (by decide) ?_
  refine zput (Z' := (si Z 20 0 0)) hC hd (e_mod hm.1) rfl i_Mod t_Mod t_Mod_ok n_Mod 0 (by decide) q_653 (Or.inl rfl) rfl rfl rfl (Nat.le_of_ble_eq_true rfl) (u_mcode hm.1) d_Mod_cancel_2 (fun H locs hd => ?_)
  refine lv_aload_n hx hb d_Mod_cancel_5 rfl (lv_at hl 0 rfl) ?_
  refine zb_i (r := (nI (m_emptyN (si Z 20 0 0)))) hd (zrunV (n := 0) (rest := []) hC hd (e_mod hm.1) rfl (c_Mod_empty l G ad ow (si Z 20 0 0) hm) q_774 q_776 qp_24 q_6 q_777 rfl rfl rfl (by decide +kernel) ⟨by decide, by decide⟩ rfl hl.1 (Nat.le_of_ble_eq_true rfl) d_Mod_cancel_6 ⟨by decide, by decide⟩) (fun H locs hd => ?_)
  exact zfi hC hd hr hlk d_Mod_cancel_9 rfl rfl
set_option maxHeartbeats 4000000 in
theorem c_Mod_lay (l : Launch) (G : Gt) (ad : Nat → Nat → Nat) (ow : Nat → Nat × Nat) (Z : Zt) (hm : ML Z) (u k : Nat) (hp : u < 5) (hk : k < 40) (hh : xn Z 517 u < 40) : Met l y_Mod_lay w_Mod_lay ({ frames := 0, cells := 0, slots := 0, locals := 0 }) (zPc G ad ow Z [.ref (ad 10 0), .int (nI u), .int (nI k)]) (Qd G ad ow (m_lay Z u k) (none)) 0 0 (zA G) := by
  refine zopen (cc := b_Mod_lay) (maxL := 4) (ret := none) (by decide) rfl (Nat.le_of_ble_eq_true rfl) ?_
  intro p e s m below meth c ls hC hr hlk hnm hd hl
  have hC : Cx G p c m s _ "KeyGraphModel" b_Mod_lay 4 := hC
  have hl : lv_has ls 4 [(0, .ref (ad 10 0)), (1, .int (nI u)), (2, .int (nI k))] := hl
  have hx := hC.1
  have hb := hC.2.1
  refine lv_bipush (v := 40) hx hb d_Mod_lay_0 (by decide) ?_
  refine lv_iload_n hx hb d_Mod_lay_2 rfl (lv_at hl 1 rfl) ?_
  refine zmulN (x := 40) (y := u) hx hb d_Mod_lay_3 ?_
  refine lv_aload_n hx hb d_Mod_lay_4 rfl (lv_at hl 0 rfl) ?_
  refine zget hC hd (e_mod hm.1) rfl i_Mod 17 (by decide) q_670 (Or.inl rfl) (v := .ref (ad 11 17)) rfl d_Mod_lay_5 ?_
  refine lv_iload_n hx hb d_Mod_lay_8 rfl (lv_at hl 1 rfl) ?_
  refine ziaN (k := u) (f := xn Z 517) hC hd (e_m17 hm.2) (by omega) (by decide) d_Mod_lay_9 ?_
  refine zaddN (x := 40 * u) (y := xn Z 517 u) hx hb d_Mod_lay_10 ?_
  refine lv_istore_n (lv' := [(3, .int (nI ((40 * u) + (xn Z 517 u)))), (0, .ref (ad 10 0)), (1, .int (nI u)), (2, .int (nI k))]) hx hb d_Mod_lay_11 rfl hl (by decide) rfl (fun ls hl => ?_)
  refine lv_aload_n hx hb d_Mod_lay_12 rfl (lv_at hl 1 rfl) ?_
  refine zget hC hd (e_mod hm.1) rfl i_Mod 18 (by decide) q_671 (Or.inl rfl) (v := .ref (ad 11 18)) rfl d_Mod_lay_13 ?_
  refine lv_iload_n hx hb d_Mod_lay_16 rfl (lv_at hl 0 rfl) ?_
  refine lv_iload_n hx hb d_Mod_lay_17 rfl (lv_at hl 3 rfl) ?_
  refine ziaS (k := (40 * u) + (xn Z 517 u)) (Z' := (sn Z 518 ((40 * u) + (xn Z 517 u)) k)) hC hd (e_m18 hm.2) (by omega) (by decide) (u_m18 hm.2) d_Mod_lay_18 (fun H locs hd => ?_)
  refine lv_aload_n hx hb d_Mod_lay_19 rfl (lv_at hl 1 rfl) ?_
  refine zget hC hd (e_mod hm.1) rfl i_Mod 21 (by decide) q_674 (Or.inl rfl) (v := .ref (ad 11 21)) rfl d_Mod_lay_20 ?_
  refine lv_iload_n hx hb d_Mod_lay_23 rfl (lv_at hl 0 rfl) ?_
  refine lv_aload_n hx hb d_Mod_lay_24 rfl (lv_at hl 1 rfl) ?_
  refine zget hC hd (e_mod hm.1) rfl i_Mod 16 (by decide) q_669 (Or.inl rfl) (v := .ref (ad 11 16)) rfl d_Mod_lay_25 ?_
  refine lv_iload_n hx hb d_Mod_lay_28 rfl (lv_at hl 3 rfl) ?_
  refine zzaI (k := k) (f := xi Z 516) hC hd (e_m16 hm.2) (by omega) (by decide) d_Mod_lay_29 ?_
  refine lv_if_eq (tgt := 48) hx hb d_Mod_lay_30 (by decide) (fun c30 => ?_) (fun c30 => ?_)
  · refine lv_iconst (v := 1) hx hb d_Mod_lay_48 (by decide) ?_
    refine lv_goto (tgt := 53) hx hb d_Mod_lay_49 (by decide) ?_
    refine zzaS (y := 1) (k := (40 * u) + (xn Z 517 u)) (Z' := (si (sn Z 518 ((40 * u) + (xn Z 517 u)) k) 521 ((40 * u) + (xn Z 517 u)) 1)) hC hd (by decide) (e_m21 hm.2) (by omega) (by decide) (u_m21 hm.2) d_Mod_lay_53 (fun H locs hd => ?_)
    refine lv_aload_n hx hb d_Mod_lay_54 rfl (lv_at hl 1 rfl) ?_
    refine zget hC hd (e_mod hm.1) rfl i_Mod 19 (by decide) q_672 (Or.inl rfl) (v := .ref (ad 11 19)) rfl d_Mod_lay_55 ?_
    refine lv_iload_n hx hb d_Mod_lay_58 rfl (lv_at hl 0 rfl) ?_
    refine lv_iconst (v := 0) hx hb d_Mod_lay_59 (by decide) ?_
    refine ziaS (k := (40 * u) + (xn Z 517 u)) (Z' := (sn (si (sn Z 518 ((40 * u) + (xn Z 517 u)) k) 521 ((40 * u) + (xn Z 517 u)) 1) 519 ((40 * u) + (xn Z 517 u)) 0)) hC hd (e_m19 hm.2) (by omega) (by decide) (u_m19 hm.2) d_Mod_lay_60 (fun H locs hd => ?_)
    refine lv_aload_n hx hb d_Mod_lay_61 rfl (lv_at hl 1 rfl) ?_
    refine zget hC hd (e_mod hm.1) rfl i_Mod 17 (by decide) q_670 (Or.inl rfl) (v := .ref (ad 11 17)) rfl d_Mod_lay_62 ?_
    refine lv_iload_n hx hb d_Mod_lay_65 rfl (lv_at hl 2 rfl) ?_
    refine lv_dup2_11 hx hb d_Mod_lay_66 rfl rfl ?_
    refine ziaN (k := u) (f := xn Z 517) hC hd (e_m17 hm.2) (by omega) (by decide) d_Mod_lay_67 ?_
    refine lv_iconst (v := 1) hx hb d_Mod_lay_68 (by decide) ?_
    refine zaddN (x := xn Z 517 u) (y := 1) hx hb d_Mod_lay_69 ?_
    refine ziaS (k := u) (Z' := (sn (sn (si (sn Z 518 ((40 * u) + (xn Z 517 u)) k) 521 ((40 * u) + (xn Z 517 u)) 1) 519 ((40 * u) + (xn Z 517 u)) 0) 517 u ((xn Z 517 u) + 1))) hC hd (e_m17 hm.2) (by omega) (by decide) (u_m17 hm.2) d_Mod_lay_70 (fun H locs hd => ?_)
    exact zfv hC hd hr hlk d_Mod_lay_71 (by simp only [m_lay, m_worksV, c30, ↓reduceIte])
  · refine lv_aload_n hx hb d_Mod_lay_33 rfl (lv_at hl 1 rfl) ?_
    refine zget hC hd (e_mod hm.1) rfl i_Mod 9 (by decide) q_662 (Or.inl rfl) (v := .ref (ad 11 9)) rfl d_Mod_lay_34 ?_
    refine lv_iload_n hx hb d_Mod_lay_37 rfl (lv_at hl 3 rfl) ?_
    refine ziaI (k := k) (f := xi Z 509) hC hd (e_m9 hm.2) (by omega) (by decide) d_Mod_lay_38 ?_
    refine lv_aload_n hx hb d_Mod_lay_39 rfl (lv_at hl 1 rfl) ?_
    refine zget hC hd (e_mod hm.1) rfl i_Mod 7 (by decide) q_660 (Or.inl rfl) (v := .ref (ad 11 7)) rfl d_Mod_lay_40 ?_
    refine lv_iload_n hx hb d_Mod_lay_43 rfl (lv_at hl 3 rfl) ?_
    refine ziaI (k := k) (f := xi Z 507) hC hd (e_m7 hm.2) (by omega) (by decide) d_Mod_lay_44 ?_
    refine lv_icmp_le (tgt := 52) hx hb d_Mod_lay_45 (by decide) (fun c45 => ?_) (fun c45 => ?_)
    · refine lv_iconst (v := 0) hx hb d_Mod_lay_52 (by decide) ?_
      refine zzaS (y := 0) (k := (40 * u) + (xn Z 517 u)) (Z' := (si (sn Z 518 ((40 * u) + (xn Z 517 u)) k) 521 ((40 * u) + (xn Z 517 u)) 0)) hC hd (by decide) (e_m21 hm.2) (by omega) (by decide) (u_m21 hm.2) d_Mod_lay_53 (fun H locs hd => ?_)
      refine lv_aload_n hx hb d_Mod_lay_54 rfl (lv_at hl 1 rfl) ?_
      refine zget hC hd (e_mod hm.1) rfl i_Mod 19 (by decide) q_672 (Or.inl rfl) (v := .ref (ad 11 19)) rfl d_Mod_lay_55 ?_
      refine lv_iload_n hx hb d_Mod_lay_58 rfl (lv_at hl 0 rfl) ?_
      refine lv_iconst (v := 0) hx hb d_Mod_lay_59 (by decide) ?_
      refine ziaS (k := (40 * u) + (xn Z 517 u)) (Z' := (sn (si (sn Z 518 ((40 * u) + (xn Z 517 u)) k) 521 ((40 * u) + (xn Z 517 u)) 0) 519 ((40 * u) + (xn Z 517 u)) 0)) hC hd (e_m19 hm.2) (by omega) (by decide) (u_m19 hm.2) d_Mod_lay_60 (fun H locs hd => ?_)
      refine lv_aload_n hx hb d_Mod_lay_61 rfl (lv_at hl 1 rfl) ?_
      refine zget hC hd (e_mod hm.1) rfl i_Mod 17 (by decide) q_670 (Or.inl rfl) (v := .ref (ad 11 17)) rfl d_Mod_lay_62 ?_
      refine lv_iload_n hx hb d_Mod_lay_65 rfl (lv_at hl 2 rfl) ?_
      refine lv_dup2_11 hx hb d_Mod_lay_66 rfl rfl ?_
      refine ziaN (k := u) (f := xn Z 517) hC hd (e_m17 hm.2) (by omega) (by decide) d_Mod_lay_67 ?_
      refine lv_iconst (v := 1) hx hb d_Mod_lay_68 (by decide) ?_
      refine zaddN (x := xn Z 517 u) (y := 1) hx hb d_Mod_lay_69 ?_
      refine ziaS (k := u) (Z' := (sn (sn (si (sn Z 518 ((40 * u) + (xn Z 517 u)) k) 521 ((40 * u) + (xn Z 517 u)) 0) 519 ((40 * u) + (xn Z 517 u)) 0) 517 u ((xn Z 517 u) + 1))) hC hd (e_m17 hm.2) (by omega) (by decide) (u_m17 hm.2) d_Mod_lay_70 (fun H locs hd => ?_)
      exact zfv hC hd hr hlk d_Mod_lay_71 (by simp only [m_lay, m_worksV, c30, c45, ↓reduceIte])
    · refine lv_iconst (v := 1) hx hb d_Mod_lay_48 (by decide) ?_
      refine lv_goto (tgt := 53) hx hb d_Mod_lay_49 (by decide) ?_
      refine zzaS (y := 1) (k := (40 * u) + (xn Z 517 u)) (Z' := (si (sn Z 518 ((40 * u) + (xn Z 517 u)) k) 521 ((40 * u) + (xn Z 517 u)) 1)) hC hd (by decide) (e_m21 hm.2) (by omega) (by decide) (u_m21 hm.2) d_Mod_lay_53 (fun H locs hd => ?_)
      refine lv_aload_n hx hb d_Mod_lay_54 rfl (lv_at hl 1 rfl) ?_
      refine zget hC hd (e_mod hm.1) rfl i_Mod 19 (by decide) q_672 (Or.inl rfl) (v := .ref (ad 11 19)) rfl d_Mod_lay_55 ?_
      refine lv_iload_n hx hb d_Mod_lay_58 rfl (lv_at hl 0 rfl) ?_
      refine lv_iconst (v := 0) hx hb d_Mod_lay_59 (by decide) ?_
      refine ziaS (k := (40 * u) + (xn Z 517 u)) (Z' := (sn (si (sn Z 518 ((40 * u) + (xn Z 517 u)) k) 521 ((40 * u) + (xn Z 517 u)) 1) 519 ((40 * u) + (xn Z 517 u)) 0)) hC hd (e_m19 hm.2) (by omega) (by decide) (u_m19 hm.2) d_Mod_lay_60 (fun H locs hd => ?_)
      refine lv_aload_n hx hb d_Mod_lay_61 rfl (lv_at hl 1 rfl) ?_
      refine zget hC hd (e_mod hm.1) rfl i_Mod 17 (by decide) q_670 (Or.inl rfl) (v := .ref (ad 11 17)) rfl d_Mod_lay_62 ?_
      refine lv_iload_n hx hb d_Mod_lay_65 rfl (lv_at hl 2 rfl) ?_
      refine lv_dup2_11 hx hb d_Mod_lay_66 rfl rfl ?_
      refine ziaN (k := u) (f := xn Z 517) hC hd (e_m17 hm.2) (by omega) (by decide) d_Mod_lay_67 ?_
      refine lv_iconst (v := 1) hx hb d_Mod_lay_68 (by decide) ?_
      refine zaddN (x := xn Z 517 u) (y := 1) hx hb d_Mod_lay_69 ?_
      refine ziaS (k := u) (Z' := (sn (sn (si (sn Z 518 ((40 * u) + (xn Z 517 u)) k) 521 ((40 * u) + (xn Z 517 u)) 1) 519 ((40 * u) + (xn Z 517 u)) 0) 517 u ((xn Z 517 u) + 1))) hC hd (e_m17 hm.2) (by omega) (by decide) (u_m17 hm.2) d_Mod_lay_70 (fun H locs hd => ?_)
      exact zfv hC hd hr hlk d_Mod_lay_71 (by simp only [m_lay, m_worksV, c30, c45, ↓reduceIte])
set_option maxHeartbeats 4000000 in
theorem c_Mod_taken (l : Launch) (G : Gt) (ad : Nat → Nat → Nat) (ow : Nat → Nat × Nat) (Z : Zt) (hm : ML Z) (hI : MI Z) (i0 j : Nat) (he : i0 < 200) (hj : j < 8) : Met l y_Mod_taken w_Mod_taken ({ frames := 1, cells := 0, slots := 0, locals := 22 }) (zPc G ad ow Z [.ref (ad 10 0), .int (nI i0), .int (nI j)]) (Qd G ad ow Z (some (.long (m_taken Z i0 j)))) 0 0 (zA G) := by
  refine zopen (cc := b_Mod_taken) (maxL := 3) (ret := (some FieldType.long)) (by decide) rfl (Nat.le_of_ble_eq_true rfl) ?_
  intro p e s m below meth c ls hC hr hlk hnm hd hl
  have hC : Cx G p c m s _ "KeyGraphModel" b_Mod_taken 3 := hC
  have hl : lv_has ls 3 [(0, .ref (ad 10 0)), (1, .int (nI i0)), (2, .int (nI j))] := hl
  have hx := hC.1
  have hb := hC.2.1
  have h1 := hI.2.2.2.2.2.2.1 i0
  have h2 := hI.2.2.2.2.2.2.2.2.1 (8 * i0 + j)
  have h3 := hI.2.2.1 (8 * xn Z 518 i0 + xn Z 520 (8 * i0 + j))
  refine lv_aload_n hx hb d_Mod_taken_0 rfl (lv_at hl 0 rfl) ?_
  refine zget hC hd (e_mod hm.1) rfl i_Mod 14 (by decide) q_667 (Or.inl rfl) (v := .ref (ad 11 14)) rfl d_Mod_taken_1 ?_
  refine lv_aload_n hx hb d_Mod_taken_4 rfl (lv_at hl 0 rfl) ?_
  refine lv_aload_n hx hb d_Mod_taken_5 rfl (lv_at hl 0 rfl) ?_
  refine zget hC hd (e_mod hm.1) rfl i_Mod 18 (by decide) q_671 (Or.inl rfl) (v := .ref (ad 11 18)) rfl d_Mod_taken_6 ?_
  refine lv_iload_n hx hb d_Mod_taken_9 rfl (lv_at hl 1 rfl) ?_
  refine ziaN (k := i0) (f := xn Z 518) hC hd (e_m18 hm.2) (by omega) (by decide) d_Mod_taken_10 ?_
  refine lv_aload_n hx hb d_Mod_taken_11 rfl (lv_at hl 0 rfl) ?_
  refine zget hC hd (e_mod hm.1) rfl i_Mod 20 (by decide) q_673 (Or.inl rfl) (v := .ref (ad 11 20)) rfl d_Mod_taken_12 ?_
  refine lv_bipush (v := 8) hx hb d_Mod_taken_15 (by decide) ?_
  refine lv_iload_n hx hb d_Mod_taken_17 rfl (lv_at hl 1 rfl) ?_
  refine zmulN (x := 8) (y := i0) hx hb d_Mod_taken_18 ?_
  refine lv_iload_n hx hb d_Mod_taken_19 rfl (lv_at hl 2 rfl) ?_
  refine zaddN (x := 8 * i0) (y := j) hx hb d_Mod_taken_20 ?_
  refine ziaN (k := (8 * i0) + j) (f := xn Z 520) hC hd (e_m20 hm.2) (by omega) (by decide) d_Mod_taken_21 ?_
  refine zb_i (r := (nI (xn Z 505 (8 * (xn Z 518 i0) + (xn Z 520 ((8 * i0) + j)))))) hd (zrunV (n := 2) (rest := [.ref (ad 11 14)]) hC hd (e_mod hm.1) rfl (c_Mod_rowKey l G ad ow Z hm (xn Z 518 i0) (xn Z 520 ((8 * i0) + j)) (by omega) (by omega)) q_762 q_764 qp_21 q_6 q_765 rfl rfl rfl (by decide +kernel) ⟨by decide, by decide⟩ rfl hl.1 (Nat.le_of_ble_eq_true rfl) d_Mod_taken_22 ⟨by decide, by decide⟩) (fun H locs hd => ?_)
  refine zlaI (k := xn Z 505 (8 * (xn Z 518 i0) + (xn Z 520 ((8 * i0) + j)))) (f := xl Z 514) hC hd (e_m14 hm.2) (by omega) (by decide) d_Mod_taken_25 ?_
  exact zfl hC hd hr hlk d_Mod_taken_26 rfl rfl
theorem m_remne {n : Nat} (h : 0 < n) (h2 : n ≤ 8) : ¬ (nI n).toInt64 = 0 := by
  rw [nI_l (by omega)]
  exact fun q => absurd ((lN_eq (b := 0) (by omega) (by omega)).mp q) (by omega)
set_option maxHeartbeats 4000000 in
theorem c_Mod_remainder (l : Launch) (G : Gt) (ad : Nat → Nat → Nat) (ow : Nat → Nat × Nat) (Z : Zt) (v : Int64) (n : Nat) (hn : 0 < n) (hn2 : n ≤ 8) : Met l y_Mod_remainder w_Mod_remainder ({ frames := 0, cells := 0, slots := 0, locals := 0 }) (zPc G ad ow Z [.long v, .int (nI n)]) (Qd G ad ow Z (some (.int (m_rem v n)))) 0 0 (zA G) := by
  refine zopen (cc := b_Mod_remainder) (maxL := 4) (ret := (some FieldType.int)) (by decide) rfl (Nat.le_of_ble_eq_true rfl) ?_
  intro p e s m below meth c ls hC hr hlk hnm hd hl
  have hC : Cx G p c m s _ "KeyGraphModel" b_Mod_remainder 4 := hC
  have hl : lv_has ls 4 [(0, .long v), (2, .int (nI n))] := hl
  have hx := hC.1
  have hb := hC.2.1
  refine lv_lload_n hx hb d_Mod_remainder_0 rfl (lv_at hl 0 rfl) ?_
  refine lv_iload_n hx hb d_Mod_remainder_1 rfl (lv_at hl 1 rfl) ?_
  refine lv_i2l (v := (nI n).toInt64) hx hb d_Mod_remainder_2 rfl ?_
  refine lv_lrem hx hb d_Mod_remainder_3 (m_remne hn hn2) ?_
  refine lv_l2i (v := (v - v / ((nI n).toInt64) * ((nI n).toInt64)).toInt32) hx hb d_Mod_remainder_4 rfl ?_
  refine lv_istore_n (lv' := [(3, .int ((v - v / ((nI n).toInt64) * ((nI n).toInt64)).toInt32)), (0, .long v), (2, .int (nI n))]) hx hb d_Mod_remainder_5 rfl hl (by decide) rfl (fun ls hl => ?_)
  refine lv_iload_n hx hb d_Mod_remainder_6 rfl (lv_at hl 0 rfl) ?_
  refine lv_if_ge (tgt := 16) hx hb d_Mod_remainder_7 (by decide) (fun c7 => ?_) (fun c7 => ?_)
  · refine lv_iload_n hx hb d_Mod_remainder_16 rfl (lv_at hl 0 rfl) ?_
    exact zfi hC hd hr hlk d_Mod_remainder_17 (by simp only [m_rem, c7, ↓reduceIte]) rfl
  · refine lv_iload_n hx hb d_Mod_remainder_10 rfl (lv_at hl 0 rfl) ?_
    refine lv_iload_n hx hb d_Mod_remainder_11 rfl (lv_at hl 2 rfl) ?_
    refine lv_iadd hx hb d_Mod_remainder_12 ?_
    refine lv_goto (tgt := 17) hx hb d_Mod_remainder_13 (by decide) ?_
    exact zfi hC hd hr hlk d_Mod_remainder_17 (by simp only [m_rem, c7, ↓reduceIte]) rfl
set_option maxHeartbeats 4000000 in
theorem lp_Mod_pileOf {p : Program} {l : Launch} {e : Env} {s : State} {m : MethodId} {args : Array Value} {below : List Frame} {meth : Method} {c : Code} {Q : State → Prop} {G : Gt} {ad : Nat → Nat → Nat} {ow : Nat → Nat × Nat} {Z : Zt} (hm : ML Z) (hI : MI Z) (k : Nat) (hk : k < 40) (q : Nat) (hq : q < 5) (hC : Cx G p c m s args "KeyGraphModel" b_Mod_pileOf 5) : ∀ (n i : Nat) (g : Int32) (ls : Array Slot) (H : Heap) (locs : List Loc), i + n = xn Z 517 q → Dy G ad ow Z s H locs → lv_has ls 5 [(4, .int (nI i)), (3, .int (nI q)), (2, .int g), (0, .ref (ad 10 0)), (1, .int (nI k))] → (∀ (ls : Array Slot) (H : Heap) (locs : List Loc), Dy G ad ow Z s H locs → lv_has ls 5 [(4, .int (nI (xn Z 517 q))), (3, .int (nI q)), (2, .int (m_pf Z k q i g n)), (0, .ref (ad 10 0)), (1, .int (nI k))] → W p l e ({ frames := 0, cells := 0, slots := 0, locals := 0 } : Room) s m args below meth c H locs 0 0 Q (F0 m 51 ls [])) → W p l e ({ frames := 0, cells := 0, slots := 0, locals := 0 } : Room) s m args below meth c H locs 0 0 Q (F0 m 12 ls []) := by
  have hx := hC.1
  have hb := hC.2.1
  have hh := hI.2.2.2.2.2.1 q
  intro n
  induction n with
  | zero =>
    intro i g ls H locs hi hd hl kk
    refine lv_iload hx hb d_Mod_pileOf_12 (lv_at hl 0 rfl) ?_
    refine lv_aload_n hx hb d_Mod_pileOf_14 rfl (lv_at hl 3 rfl) ?_
    refine zget hC hd (e_mod hm.1) rfl i_Mod 17 (by decide) q_670 (Or.inl rfl) (v := .ref (ad 11 17)) rfl d_Mod_pileOf_15 ?_
    refine lv_iload_n hx hb d_Mod_pileOf_18 rfl (lv_at hl 1 rfl) ?_
    refine ziaN (k := q) (f := xn Z 517) hC hd (e_m17 hm.2) (by omega) (by decide) d_Mod_pileOf_19 ?_
    refine zc_ge (x := i) (y := xn Z 517 q) (tgt := 51) (by omega) (by omega) hx hb d_Mod_pileOf_20 (by decide) (fun c20 => ?_) (fun c20 => absurd hi (by omega))
    have hi' : i = xn Z 517 q := by omega
    exact kk ls H locs hd (by rw [← hi']; exact hl)
  | succ n ih =>
    intro i g ls H locs hi hd hl kk
    have h3 := hI.2.2.2.2.2.2.1 (40 * q + i)
    refine lv_iload hx hb d_Mod_pileOf_12 (lv_at hl 0 rfl) ?_
    refine lv_aload_n hx hb d_Mod_pileOf_14 rfl (lv_at hl 3 rfl) ?_
    refine zget hC hd (e_mod hm.1) rfl i_Mod 17 (by decide) q_670 (Or.inl rfl) (v := .ref (ad 11 17)) rfl d_Mod_pileOf_15 ?_
    refine lv_iload_n hx hb d_Mod_pileOf_18 rfl (lv_at hl 1 rfl) ?_
    refine ziaN (k := q) (f := xn Z 517) hC hd (e_m17 hm.2) (by omega) (by decide) d_Mod_pileOf_19 ?_
    refine zc_ge (x := i) (y := xn Z 517 q) (tgt := 51) (by omega) (by omega) hx hb d_Mod_pileOf_20 (by decide) (fun c20 => absurd hi (by omega)) (fun c20 => ?_)
    refine lv_aload_n hx hb d_Mod_pileOf_23 rfl (lv_at hl 3 rfl) ?_
    refine zget hC hd (e_mod hm.1) rfl i_Mod 18 (by decide) q_671 (Or.inl rfl) (v := .ref (ad 11 18)) rfl d_Mod_pileOf_24 ?_
    refine lv_bipush (v := 40) hx hb d_Mod_pileOf_27 (by decide) ?_
    refine lv_iload_n hx hb d_Mod_pileOf_29 rfl (lv_at hl 1 rfl) ?_
    refine zmulN (x := 40) (y := q) hx hb d_Mod_pileOf_30 ?_
    refine lv_iload hx hb d_Mod_pileOf_31 (lv_at hl 0 rfl) ?_
    refine zaddN (x := 40 * q) (y := i) hx hb d_Mod_pileOf_33 ?_
    refine ziaN (k := (40 * q) + i) (f := xn Z 518) hC hd (e_m18 hm.2) (by omega) (by decide) d_Mod_pileOf_34 ?_
    refine lv_iload_n hx hb d_Mod_pileOf_35 rfl (lv_at hl 4 rfl) ?_
    refine zc_ne (x := xn Z 518 ((40 * q) + i)) (y := k) (tgt := 43) (by omega) (by omega) hx hb d_Mod_pileOf_36 (by decide) (fun c36 => ?_) (fun c36 => ?_)
    · refine lv_iload_n hx hb d_Mod_pileOf_43 rfl (lv_at hl 2 rfl) ?_
      refine lv_istore_n (lv' := [(2, .int g), (4, .int (nI i)), (3, .int (nI q)), (0, .ref (ad 10 0)), (1, .int (nI k))]) hx hb d_Mod_pileOf_44 rfl hl (by decide) rfl (fun ls hl => ?_)
      refine lv_iinc (v := (nI (i + 1))) (lv' := [(4, .int (nI (i + 1))), (2, .int g), (3, .int (nI q)), (0, .ref (ad 10 0)), (1, .int (nI k))]) hx hb d_Mod_pileOf_45 hl (k := 1) rfl (by rw [show Int32.ofInt 1 = nI 1 from by decide]; exact nI_add _ _) (by decide) rfl (fun ls hl => ?_)
      refine lv_goto (tgt := 12) hx hb d_Mod_pileOf_48 (by decide) ?_
      refine ih (i + 1) _ ls H locs (by omega) hd (lv_sub hl [0, 2, 1, 3, 4] rfl) (fun ls H locs hd hl => kk ls H locs hd ?_)
      have e1 : m_pf Z k q i g (n + 1) = m_pf Z k q (i + 1) g n := by simp [m_pf, c36]
      rw [e1]; exact hl
    · refine lv_iload_n hx hb d_Mod_pileOf_39 rfl (lv_at hl 1 rfl) ?_
      refine lv_goto (tgt := 44) hx hb d_Mod_pileOf_40 (by decide) ?_
      refine lv_istore_n (lv' := [(2, .int (nI q)), (4, .int (nI i)), (3, .int (nI q)), (0, .ref (ad 10 0)), (1, .int (nI k))]) hx hb d_Mod_pileOf_44 rfl hl (by decide) rfl (fun ls hl => ?_)
      refine lv_iinc (v := (nI (i + 1))) (lv' := [(4, .int (nI (i + 1))), (2, .int (nI q)), (3, .int (nI q)), (0, .ref (ad 10 0)), (1, .int (nI k))]) hx hb d_Mod_pileOf_45 hl (k := 1) rfl (by rw [show Int32.ofInt 1 = nI 1 from by decide]; exact nI_add _ _) (by decide) rfl (fun ls hl => ?_)
      refine lv_goto (tgt := 12) hx hb d_Mod_pileOf_48 (by decide) ?_
      refine ih (i + 1) _ ls H locs (by omega) hd (lv_sub hl [0, 2, 1, 3, 4] rfl) (fun ls H locs hd hl => kk ls H locs hd ?_)
      have e1 : m_pf Z k q i g (n + 1) = m_pf Z k q (i + 1) (nI q) n := by simp [m_pf, c36]
      rw [e1]; exact hl
set_option maxHeartbeats 4000000 in
theorem lo_Mod_pileOf {p : Program} {l : Launch} {e : Env} {s : State} {m : MethodId} {args : Array Value} {below : List Frame} {meth : Method} {c : Code} {Q : State → Prop} {G : Gt} {ad : Nat → Nat → Nat} {ow : Nat → Nat × Nat} {Z : Zt} (hm : ML Z) (hI : MI Z) (k : Nat) (hk : k < 40) (hC : Cx G p c m s args "KeyGraphModel" b_Mod_pileOf 5) : ∀ (n q : Nat) (g : Int32) (ls : Array Slot) (H : Heap) (locs : List Loc), q + n = 5 → Dy G ad ow Z s H locs → lv_has ls 5 [(3, .int (nI q)), (2, .int g), (0, .ref (ad 10 0)), (1, .int (nI k))] → (∀ (ls : Array Slot) (H : Heap) (locs : List Loc), Dy G ad ow Z s H locs → lv_has ls 5 [(3, .int (nI 5)), (2, .int (m_po Z k q g n)), (0, .ref (ad 10 0)), (1, .int (nI k))] → W p l e ({ frames := 0, cells := 0, slots := 0, locals := 0 } : Room) s m args below meth c H locs 0 0 Q (F0 m 57 ls [])) → W p l e ({ frames := 0, cells := 0, slots := 0, locals := 0 } : Room) s m args below meth c H locs 0 0 Q (F0 m 4 ls []) := by
  have hx := hC.1
  have hb := hC.2.1
  intro n
  induction n with
  | zero =>
    intro q g ls H locs hi hd hl kk
    refine lv_iload_n hx hb d_Mod_pileOf_4 rfl (lv_at hl 0 rfl) ?_
    refine lv_iconst (v := 5) hx hb d_Mod_pileOf_5 (by decide) ?_
    refine zc_ge (x := q) (y := 5) (tgt := 57) (by omega) (by omega) hx hb d_Mod_pileOf_6 (by decide) (fun c6 => ?_) (fun c6 => absurd hi (by omega))
    obtain rfl : q = 5 := by omega
    exact kk ls H locs hd hl
  | succ n ih =>
    intro q g ls H locs hi hd hl kk
    refine lv_iload_n hx hb d_Mod_pileOf_4 rfl (lv_at hl 0 rfl) ?_
    refine lv_iconst (v := 5) hx hb d_Mod_pileOf_5 (by decide) ?_
    refine zc_ge (x := q) (y := 5) (tgt := 57) (by omega) (by omega) hx hb d_Mod_pileOf_6 (by decide) (fun c6 => absurd hi (by omega)) (fun c6 => ?_)
    refine lv_iconst (v := 0) hx hb d_Mod_pileOf_9 (by decide) ?_
    refine lv_istore (lv' := [(4, .int 0), (3, .int (nI q)), (2, .int g), (0, .ref (ad 10 0)), (1, .int (nI k))]) hx hb d_Mod_pileOf_10 hl (by decide) rfl (fun ls hl => ?_)
    refine lp_Mod_pileOf hm hI k hk q (by omega) hC (xn Z 517 q) 0 g ls H locs (by omega) hd (lv_sub hl [0, 1, 2, 3, 4] rfl) (fun ls H locs hd hl => ?_)
    refine lv_iinc (v := (nI (q + 1))) (lv' := [(3, .int (nI (q + 1))), (4, .int (nI (xn Z 517 q))), (2, .int (m_pf Z k q 0 g (xn Z 517 q))), (0, .ref (ad 10 0)), (1, .int (nI k))]) hx hb d_Mod_pileOf_51 hl (k := 1) rfl (by rw [show Int32.ofInt 1 = nI 1 from by decide]; exact nI_add _ _) (by decide) rfl (fun ls hl => ?_)
    refine lv_goto (tgt := 4) hx hb d_Mod_pileOf_54 (by decide) ?_
    exact ih (q + 1) _ ls H locs (by omega) hd (lv_sub hl [0, 2, 3, 4] rfl) (fun ls H locs hd hl => kk ls H locs hd hl)
set_option maxHeartbeats 4000000 in
theorem c_Mod_pileOf (l : Launch) (G : Gt) (ad : Nat → Nat → Nat) (ow : Nat → Nat × Nat) (Z : Zt) (hm : ML Z) (hI : MI Z) (k : Nat) (hk : k < 40) (r : Int32) (h : m_pileOf Z k = r) : Met l y_Mod_pileOf w_Mod_pileOf ({ frames := 0, cells := 0, slots := 0, locals := 0 }) (zPc G ad ow Z [.ref (ad 10 0), .int (nI k)]) (Qd G ad ow Z (some (.int r))) 0 0 (zA G) := by
  refine zopen (cc := b_Mod_pileOf) (maxL := 5) (ret := (some FieldType.int)) (by decide) rfl (Nat.le_of_ble_eq_true rfl) ?_
  intro p e s m below meth c ls hC hr hlk hnm hd hl
  have hC : Cx G p c m s _ "KeyGraphModel" b_Mod_pileOf 5 := hC
  have hl : lv_has ls 5 [(0, .ref (ad 10 0)), (1, .int (nI k))] := hl
  have hx := hC.1
  have hb := hC.2.1
  obtain ⟨H, hH⟩ : ∃ q, q = s.heap := ⟨_, rfl⟩
  obtain ⟨locs, hlocs⟩ : ∃ q : List Loc, q = [] := ⟨_, rfl⟩
  rw [← hH, ← hlocs] at hd
  rw [← hH, ← hlocs]
  refine lv_iconst (v := (-1)) hx hb d_Mod_pileOf_0 (by decide) ?_
  refine lv_istore_n (lv' := [(2, .int (-1)), (0, .ref (ad 10 0)), (1, .int (nI k))]) hx hb d_Mod_pileOf_1 rfl hl (by decide) rfl (fun ls hl => ?_)
  refine lv_iconst (v := 0) hx hb d_Mod_pileOf_2 (by decide) ?_
  refine lv_istore_n (lv' := [(3, .int 0), (2, .int (-1)), (0, .ref (ad 10 0)), (1, .int (nI k))]) hx hb d_Mod_pileOf_3 rfl hl (by decide) rfl (fun ls hl => ?_)
  refine lo_Mod_pileOf hm hI k hk hC 5 0 (-1) ls H locs rfl hd (lv_sub hl [0, 1, 2, 3] rfl) (fun ls H locs hd hl => ?_)
  refine lv_iload_n hx hb d_Mod_pileOf_57 rfl (lv_at hl 1 rfl) ?_
  exact zfi hC hd hr hlk d_Mod_pileOf_58 h rfl
set_option maxHeartbeats 4000000 in
theorem c_Mod_await (l : Launch) (G : Gt) (ad : Nat → Nat → Nat) (ow : Nat → Nat × Nat) (Z : Zt) (hm : ML Z) (hI : MI Z) (u k : Nat) (hp : u < 5) (hk : k < 40) (hh : m_pileOf Z k = -1 → xn Z 517 u < 40) : Met l y_Mod_await w_Mod_await ({ frames := 1, cells := 0, slots := 0, locals := 24 }) (zPc G ad ow Z [.ref (ad 10 0), .int (nI u), .int (nI k)]) (Qd G ad ow ((m_await Z u k).1) (some (.int (m_await Z u k).2))) 0 0 (zA G) := by
  refine zopen (cc := b_Mod_await) (maxL := 3) (ret := (some FieldType.int)) (by decide) rfl (Nat.le_of_ble_eq_true rfl) ?_
  intro p e s m below meth c ls hC hr hlk hnm hd hl
  have hC : Cx G p c m s _ "KeyGraphModel" b_Mod_await 3 := hC
  have hl : lv_has ls 3 [(0, .ref (ad 10 0)), (1, .int (nI u)), (2, .int (nI k))] := hl
  have hx := hC.1
  have hb := hC.2.1
  refine lv_aload_n hx hb d_Mod_await_0 rfl (lv_at hl 0 rfl) ?_
  refine lv_iload_n hx hb d_Mod_await_1 rfl (lv_at hl 2 rfl) ?_
  refine zb_i (r := (m_pileOf Z k)) hd (zrunV (n := 1) (rest := []) hC hd (e_mod hm.1) rfl (c_Mod_pileOf l G ad ow Z hm hI k (by omega) (m_pileOf Z k) rfl) q_797 q_799 qp_25 q_6 q_800 rfl rfl rfl (by decide +kernel) ⟨by decide, by decide⟩ rfl hl.1 (Nat.le_of_ble_eq_true rfl) d_Mod_await_2 ⟨by decide, by decide⟩) (fun H locs hd => ?_)
  refine lv_iconst (v := (-1)) hx hb d_Mod_await_5 (by decide) ?_
  refine lv_icmp_eq (tgt := 11) hx hb d_Mod_await_6 (by decide) (fun c6 => ?_) (fun c6 => ?_)
  · refine lv_aload_n hx hb d_Mod_await_11 rfl (lv_at hl 0 rfl) ?_
    refine lv_iload_n hx hb d_Mod_await_12 rfl (lv_at hl 1 rfl) ?_
    refine lv_iload_n hx hb d_Mod_await_13 rfl (lv_at hl 2 rfl) ?_
    refine zb_v hd (zrunV (n := 2) (rest := []) hC hd (e_mod hm.1) rfl (c_Mod_lay l G ad ow Z hm u k (by omega) (by omega) (hh c6)) q_805 q_807 qp_27 q_6 q_808 rfl rfl rfl (by decide +kernel) ⟨by decide, by decide⟩ rfl hl.1 (Nat.le_of_ble_eq_true rfl) d_Mod_await_14 ⟨by decide, by decide⟩) (fun H locs hd => ?_)
    refine lv_iconst (v := 1) hx hb d_Mod_await_17 (by decide) ?_
    exact zfi hC hd hr hlk d_Mod_await_18 (by simp only [m_await]; simp [c6]) (by simp only [m_await]; simp [c6])
  · refine lv_iconst (v := 3) hx hb d_Mod_await_9 (by decide) ?_
    exact zfi hC hd hr hlk d_Mod_await_10 (by simp only [m_await]; simp [c6]) (by simp only [m_await]; simp [c6])
