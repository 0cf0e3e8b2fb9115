def x_clr (u : Nat) : Zt → Nat → Zt
  | Z, 0 => Z
  | Z, n + 1 => x_clr u (sn (si Z 8 (xc Z 7 u n - 1) (-1)) 9 u n) n
theorem x_clr_xn (u : Nat) : ∀ (n : Nat) (Z : Zt) (t i : Nat), (t ≠ 9 ∨ i ≠ u) → xn (x_clr u Z n) t i = xn Z t i
  | 0, _, _, _, _ => rfl
  | n + 1, Z, t, i, h => (x_clr_xn u n _ t i h).trans (by rw [xn_sn, if_neg (fun q => h.elim (fun a => a q.1) (fun a => a q.2))]; rfl)
theorem x_clr_xc (u : Nat) : ∀ (n : Nat) (Z : Zt) (c i j : Nat), xc (x_clr u Z n) c i j = xc Z c i j
  | 0, _, _, _, _ => rfl
  | n + 1, Z, c, i, j => (x_clr_xc u n _ c i j).trans rfl
theorem x_clr_xl (u : Nat) : ∀ (n : Nat) (Z : Zt) (t i : Nat), xl (x_clr u Z n) t i = xl Z t i
  | 0, _, _, _ => rfl
  | n + 1, Z, t, i => (x_clr_xl u n _ t i).trans rfl
theorem x_clr_xi (u : Nat) : ∀ (n : Nat) (Z : Zt) (t i : Nat), t ≠ 8 → xi (x_clr u Z n) t i = xi Z t i
  | 0, _, _, _, _ => rfl
  | n + 1, Z, t, i, h => (x_clr_xi u n _ t i h).trans (by rw [show ∀ q, xi (sn q 9 u n) t i = xi q t i from fun _ => rfl, xi_si, if_neg (fun q => h q.1)])
theorem x_clr_XS (u n : Nat) {Z : Zt} (hX : XS Z) : XS (x_clr u Z n) := by
  refine hX.of (fun i => x_clr_xn u n Z 0 i (Or.inl (by decide))) (fun i => x_clr_xn u n Z 2 i (Or.inl (by decide))) (fun i => x_clr_xn u n Z 3 i (Or.inl (by decide))) (fun i j => x_clr_xc u n Z 4 i j) (fun k hk => ?_)
  rw [x_clr_xn u n Z 7 k (Or.inl (by decide)), x_clr_xn u n Z 8 k (Or.inl (by decide))]
  exact hX.2.2.2.2.2 k hk
def PileOk (Z : Zt) (u : Nat) : Prop := xn Z 9 u ≤ 40 ∧ ∀ j, j < xn Z 9 u → ∃ q, q < xn Z 0 1 ∧ xc Z 7 u j = q + 1
def CancelPre (Z : Zt) : Prop := ∀ u, u < 5 → PileOk Z u
def x_can1 (Z : Zt) : Zt := x_clr 0 Z (xn Z 9 0)
def x_can2 (Z : Zt) : Zt := x_clr 1 (x_can1 Z) (xn Z 9 1)
def x_can3 (Z : Zt) : Zt := x_clr 2 (x_can2 Z) (xn Z 9 2)
def x_can4 (Z : Zt) : Zt := x_clr 3 (x_can3 Z) (xn Z 9 3)
def x_cancel (Z : Zt) : Zt := x_clr 4 (x_can4 Z) (xn Z 9 4)
def x_cancelN (Z : Zt) : Nat := ((((0 + xn Z 9 0) + xn Z 9 1) + xn Z 9 2) + xn Z 9 3) + xn Z 9 4
theorem x_can_xn (Z : Zt) (t i : Nat) (h : t ≠ 9) : xn (x_cancel Z) t i = xn Z t i := by
  unfold x_cancel x_can4 x_can3 x_can2 x_can1
  rw [x_clr_xn _ _ _ _ _ (Or.inl h), x_clr_xn _ _ _ _ _ (Or.inl h), x_clr_xn _ _ _ _ _ (Or.inl h), x_clr_xn _ _ _ _ _ (Or.inl h), x_clr_xn _ _ _ _ _ (Or.inl h)]
theorem x_can_xc (Z : Zt) (c i j : Nat) : xc (x_cancel Z) c i j = xc Z c i j := by
  unfold x_cancel x_can4 x_can3 x_can2 x_can1
  rw [x_clr_xc, x_clr_xc, x_clr_xc, x_clr_xc, x_clr_xc]
theorem x_can_xl (Z : Zt) (t i : Nat) : xl (x_cancel Z) t i = xl Z t i := by
  unfold x_cancel x_can4 x_can3 x_can2 x_can1
  rw [x_clr_xl, x_clr_xl, x_clr_xl, x_clr_xl, x_clr_xl]
theorem x_can_xi (Z : Zt) (t i : Nat) (h : t ≠ 8) : xi (x_cancel Z) t i = xi Z t i := by
  unfold x_cancel x_can4 x_can3 x_can2 x_can1
  rw [x_clr_xi _ _ _ _ _ h, x_clr_xi _ _ _ _ _ h, x_clr_xi _ _ _ _ _ h, x_clr_xi _ _ _ _ _ h, x_clr_xi _ _ _ _ _ h]
theorem x_can_XS {Z : Zt} (hX : XS Z) : XS (x_cancel Z) := x_clr_XS 4 _ (x_clr_XS 3 _ (x_clr_XS 2 _ (x_clr_XS 1 _ (x_clr_XS 0 _ hX))))
theorem PileOk.at {Z Z' : Zt} {u : Nat} (h : PileOk Z u) (h1 : xn Z' 9 u = xn Z 9 u) (h2 : xn Z' 0 1 = xn Z 0 1) (h3 : ∀ j, xc Z' 7 u j = xc Z 7 u j) : PileOk Z' u := by
  unfold PileOk at h ⊢
  simp only [h1, h2, h3]
  exact h

set_option maxHeartbeats 4000000 in
theorem lp_KG_cancel {p : Program} {l : Launch} {e : Env} {s : State} {m : MethodId} {args : Array Value} {below : List Frame} {meth : Method} {c : Code} {Q : State → Prop} {G : Gt} {ad : Nat → Nat → Nat} {ow : Nat → Nat × Nat} (u : Nat) (hu : u < 5) (hC : Cx G p c m s args "KeyGraph" b_KG_cancel 4) : ∀ (n : Nat) (Z : Zt) (a : Nat) (ls : Array Slot) (H : Heap) (locs : List Loc), xn Z 9 u = n → XS Z → PileOk Z u → Dy G ad ow Z s H locs → lv_has ls 4 [(1, .int (nI (a))), (2, .int (nI u)), (3, .ref (ad 6 u)), (0, .ref (ad 0 0))] → (∀ (ls : Array Slot) (H : Heap) (locs : List Loc), Dy G ad ow (x_clr u Z n) s H locs → lv_has ls 4 [(1, .int (nI (a + n))), (2, .int (nI u)), (3, .ref (ad 6 u)), (0, .ref (ad 0 0))] → W p l e ({ frames := 1, cells := 0, slots := 0, locals := 20 } : Room) s m args below meth c H locs 0 0 Q (F0 m 47 ls [])) → W p l e ({ frames := 1, cells := 0, slots := 0, locals := 20 } : Room) s m args below meth c H locs 0 0 Q (F0 m 16 ls []) := by
  have hx := hC.1
  have hb := hC.2.1
  intro n
  induction n with
  | zero =>
    intro Z a ls H locs hn hX hp hd hl kk
    refine lv_aload_n hx hb d_KG_cancel_16 rfl (lv_at hl 2 rfl) ?_
    refine zgetN hC hd (e_pile (hX.pl hu)) rfl i_Pile 1 (by decide) z_74 (Or.inl rfl) (v := .int (nI (xn Z 9 u))) rfl d_KG_cancel_17 ?_
    refine zi_le (x := xn Z 9 u) (tgt := 47) (by omega) hx hb d_KG_cancel_20 (by decide) (fun c20 => ?_) (fun c20 => absurd hn (by omega))
    exact kk ls H locs hd hl
  | succ n ih =>
    intro Z a ls H locs hn hX hp hd hl kk
    obtain ⟨h40, hq⟩ := hp
    obtain ⟨k, hkn, hk⟩ := hq n (by omega)
    have hne : xc Z 7 u (xn Z 9 u - 1) = k + 1 := by rw [show xn Z 9 u - 1 = n by omega]; exact hk
    refine lv_aload_n hx hb d_KG_cancel_16 rfl (lv_at hl 2 rfl) ?_
    refine zgetN hC hd (e_pile (hX.pl hu)) rfl i_Pile 1 (by decide) z_74 (Or.inl rfl) (v := .int (nI (xn Z 9 u))) rfl d_KG_cancel_17 ?_
    refine zi_le (x := xn Z 9 u) (tgt := 47) (by omega) hx hb d_KG_cancel_20 (by decide) (fun c20 => absurd hn (by omega)) (fun c20 => ?_)
    refine lv_aload_n hx hb d_KG_cancel_23 rfl (lv_at hl 2 rfl) ?_
    refine zb_a (r := (ad 1 k)) hd (zrunV (n := 0) (rest := []) hC hd (e_pile (hX.pl hu)) rfl (c_Pile_top l G ad ow Z hX u hu (by omega) (by omega) k hne) q_394 q_395 q_396 q_5 q_397 rfl rfl rfl (by decide +kernel) ⟨by decide, by decide⟩ rfl hl.1 (Nat.le_of_ble_eq_true rfl) d_KG_cancel_24 ⟨by decide, by decide⟩) (fun H locs hd => ?_)
    refine lv_iconst (v := (-1)) hx hb d_KG_cancel_27 (by decide) ?_
    refine zputN (Z' := (si Z 8 k (-1))) (v := .int (-1)) hC hd (e_key hkn) rfl i_Key t_Key t_Key_ok n_Key 15 (by decide) z_135 rfl rfl rfl rfl (Nat.le_of_ble_eq_true rfl) (u_worker hkn) d_KG_cancel_28 (fun H locs hd => ?_)
    refine lv_iinc (v := (nI (a + 1))) (lv' := [(1, .int (nI (a + 1))), (2, .int (nI u)), (3, .ref (ad 6 u)), (0, .ref (ad 0 0))]) hx hb d_KG_cancel_31 hl (k := 0) rfl (by rw [show Int32.ofInt 1 = nI 1 from by decide]; exact nI_add _ _) (by decide) rfl (fun ls hl => ?_)
    refine lv_aload_n hx hb d_KG_cancel_34 rfl (lv_at hl 2 rfl) ?_
    refine lv_dup hx hb d_KG_cancel_35 rfl ?_
    refine zgetN hC hd (e_pile (hX.pl hu)) rfl i_Pile 1 (by decide) z_74 (Or.inl rfl) (v := .int (nI (xn Z 9 u))) rfl d_KG_cancel_36 ?_
    refine lv_iconst (v := 1) hx hb d_KG_cancel_39 (by decide) ?_
    refine zsubN (x := xn Z 9 u) (y := 1) (by omega) hx hb d_KG_cancel_40 ?_
    refine zputN (Z' := (sn (si Z 8 k (-1)) 9 u ((xn Z 9 u) - 1))) (v := .int (nI ((xn Z 9 u) - 1))) hC hd (e_pile (hX.pl hu)) rfl i_Pile t_Pile t_Pile_ok n_Pile 1 (by decide) z_74 rfl rfl rfl rfl (Nat.le_of_ble_eq_true rfl) (u_psz (hX.pl hu)) d_KG_cancel_41 (fun H locs hd => ?_)
    refine lv_goto (tgt := 16) hx hb d_KG_cancel_44 (by decide) ?_
    have ez : (sn (si Z 8 k (-1)) 9 u ((xn Z 9 u) - 1)) = sn (si Z 8 (xc Z 7 u n - 1) (-1)) 9 u n := by rw [show xn Z 9 u - 1 = n by omega, show xc Z 7 u n - 1 = k by omega]
    have hd := Dy.eq hd ez
    refine ih (sn (si Z 8 (xc Z 7 u n - 1) (-1)) 9 u n) (a + 1) ls H locs (by rw [xn_sn, if_pos ⟨rfl, rfl⟩]) hX ⟨by rw [xn_sn, if_pos ⟨rfl, rfl⟩]; omega, fun j hj => hq j (by rw [xn_sn, if_pos ⟨rfl, rfl⟩] at hj; omega)⟩ hd (lv_sub hl [0, 1, 2, 3] rfl) (fun ls H locs hd hl => kk ls H locs hd ?_)
    rw [show a + (n + 1) = a + 1 + n by omega]; exact hl
set_option maxHeartbeats 4000000 in
theorem c_KG_cancel (l : Launch) (G : Gt) (ad : Nat → Nat → Nat) (ow : Nat → Nat × Nat) (Z : Zt) (hX : XS Z) (hcp : CancelPre Z) : Met l y_KG_cancel w_KG_cancel ({ frames := 1, cells := 0, slots := 0, locals := 20 }) (zPc G ad ow Z [.ref (ad 0 0)]) (Qd G ad ow (x_cancel Z) (some (.int (nI (x_cancelN Z))))) 0 0 (zA G) := by
  refine zopen (cc := b_KG_cancel) (maxL := 4) (ret := (some FieldType.int)) (by decide) rfl (Nat.le_of_ble_eq_true rfl) ?_
  intro p e s m below meth c ls hC hr hlk hnm hd hl
  have hC : Cx G p c m s _ "KeyGraph" b_KG_cancel 4 := hC
  have hl : lv_has ls 4 [(0, .ref (ad 0 0))] := hl
  have hx := hC.1
  have hb := hC.2.1
  obtain ⟨H, hH⟩ : ∃ q, q = s.heap := ⟨_, rfl⟩
  obtain ⟨locs, hlocs⟩ : ∃ q : List Loc, q = [] := ⟨_, rfl⟩
  rw [← hH, ← hlocs] at hd
  rw [← hH, ← hlocs]
  refine lv_iconst (v := 0) hx hb d_KG_cancel_0 (by decide) ?_
  refine lv_istore_n (lv' := [(1, .int 0), (0, .ref (ad 0 0))]) hx hb d_KG_cancel_1 rfl hl (by decide) rfl (fun ls hl => ?_)
  refine lv_iconst (v := 0) hx hb d_KG_cancel_2 (by decide) ?_
  refine lv_istore_n (lv' := [(2, .int 0), (1, .int 0), (0, .ref (ad 0 0))]) hx hb d_KG_cancel_3 rfl hl (by decide) rfl (fun ls hl => ?_)
  refine lv_iload_n hx hb d_KG_cancel_4 rfl (lv_at hl 0 rfl) ?_
  refine lv_iconst (v := 4) hx hb d_KG_cancel_5 (by decide) ?_
  refine lv_icmp_gt (tgt := 53) hx hb d_KG_cancel_6 (by decide) (fun c => absurd c (by decide)) (fun _ => ?_)
  refine lv_aload_n hx hb d_KG_cancel_9 rfl (lv_at hl 2 rfl) ?_
  refine zget hC hd (e_kg hX.kg) rfl i_KG 1 (by decide) q_81 (Or.inl rfl) (v := .ref (ad 8 0)) rfl d_KG_cancel_10 ?_
  refine lv_iload_n hx hb d_KG_cancel_13 rfl (lv_at hl 0 rfl) ?_
  refine zaaP (k := 0) hC hd (e_piles hX.ps) (by omega) (by decide) rfl d_KG_cancel_14 ?_
  refine lv_astore_n (lv' := [(3, .ref (ad 6 0)), (2, .int 0), (1, .int 0), (0, .ref (ad 0 0))]) hx hb d_KG_cancel_15 rfl hl (by decide) rfl (fun ls hl => ?_)
  have hs0 : xn Z 9 0 = xn Z 9 0 := by rfl
  have hpk0 : PileOk Z 0 := (hcp 0 (by decide)).at hs0 rfl (fun _ => rfl)
  refine lp_KG_cancel 0 (by decide) hC (xn Z 9 0) Z 0 ls H locs hs0 hX hpk0 hd (lv_sub hl [2, 1, 0, 3] rfl) (fun ls H locs hd hl => ?_)
  have hX1 : XS (x_can1 Z) := x_clr_XS 0 _ hX
  have hd : Dy G ad ow (x_can1 Z) s H locs := hd
  have hl : lv_has ls 4 [(1, .int (nI (0 + xn Z 9 0))), (2, .int 0), (3, .ref (ad 6 0)), (0, .ref (ad 0 0))] := hl
  refine lv_iinc (v := 1) (lv' := [(2, .int 1), (1, .int (nI (0 + xn Z 9 0))), (3, .ref (ad 6 0)), (0, .ref (ad 0 0))]) hx hb d_KG_cancel_47 hl (k := 1) rfl (by decide) (by decide) rfl (fun ls hl => ?_)
  refine lv_goto (tgt := 4) hx hb d_KG_cancel_50 (by decide) ?_
  refine lv_iload_n hx hb d_KG_cancel_4 rfl (lv_at hl 0 rfl) ?_
  refine lv_iconst (v := 4) hx hb d_KG_cancel_5 (by decide) ?_
  refine lv_icmp_gt (tgt := 53) hx hb d_KG_cancel_6 (by decide) (fun c => absurd c (by decide)) (fun _ => ?_)
  refine lv_aload_n hx hb d_KG_cancel_9 rfl (lv_at hl 3 rfl) ?_
  refine zget hC hd (e_kg hX1.kg) rfl i_KG 1 (by decide) q_81 (Or.inl rfl) (v := .ref (ad 8 0)) rfl d_KG_cancel_10 ?_
  refine lv_iload_n hx hb d_KG_cancel_13 rfl (lv_at hl 0 rfl) ?_
  refine zaaP (k := 1) hC hd (e_piles hX1.ps) (by omega) (by decide) rfl d_KG_cancel_14 ?_
  refine lv_astore_n (lv' := [(3, .ref (ad 6 1)), (2, .int 1), (1, .int (nI (0 + xn Z 9 0))), (0, .ref (ad 0 0))]) hx hb d_KG_cancel_15 rfl hl (by decide) rfl (fun ls hl => ?_)
  have hs1 : xn (x_can1 Z) 9 1 = xn Z 9 1 := by unfold x_can1; rw [x_clr_xn _ _ _ _ _ (Or.inr (by decide))]
  have hpk1 : PileOk (x_can1 Z) 1 := (hcp 1 (by decide)).at hs1 (by unfold x_can1; rw [x_clr_xn _ _ _ _ _ (Or.inl (by decide))]) (fun j => by unfold x_can1; rw [x_clr_xc])
  refine lp_KG_cancel 1 (by decide) hC (xn Z 9 1) (x_can1 Z) (0 + xn Z 9 0) ls H locs hs1 hX1 hpk1 hd (lv_sub hl [2, 1, 0, 3] rfl) (fun ls H locs hd hl => ?_)
  have hX2 : XS (x_can2 Z) := x_clr_XS 1 _ hX1
  have hd : Dy G ad ow (x_can2 Z) s H locs := hd
  have hl : lv_has ls 4 [(1, .int (nI ((0 + xn Z 9 0) + xn Z 9 1))), (2, .int 1), (3, .ref (ad 6 1)), (0, .ref (ad 0 0))] := hl
  refine lv_iinc (v := 2) (lv' := [(2, .int 2), (1, .int (nI ((0 + xn Z 9 0) + xn Z 9 1))), (3, .ref (ad 6 1)), (0, .ref (ad 0 0))]) hx hb d_KG_cancel_47 hl (k := 1) rfl (by decide) (by decide) rfl (fun ls hl => ?_)
  refine lv_goto (tgt := 4) hx hb d_KG_cancel_50 (by decide) ?_
  refine lv_iload_n hx hb d_KG_cancel_4 rfl (lv_at hl 0 rfl) ?_
  refine lv_iconst (v := 4) hx hb d_KG_cancel_5 (by decide) ?_
  refine lv_icmp_gt (tgt := 53) hx hb d_KG_cancel_6 (by decide) (fun c => absurd c (by decide)) (fun _ => ?_)
  refine lv_aload_n hx hb d_KG_cancel_9 rfl (lv_at hl 3 rfl) ?_
  refine zget hC hd (e_kg hX2.kg) rfl i_KG 1 (by decide) q_81 (Or.inl rfl) (v := .ref (ad 8 0)) rfl d_KG_cancel_10 ?_
  refine lv_iload_n hx hb d_KG_cancel_13 rfl (lv_at hl 0 rfl) ?_
  refine zaaP (k := 2) hC hd (e_piles hX2.ps) (by omega) (by decide) rfl d_KG_cancel_14 ?_
  refine lv_astore_n (lv' := [(3, .ref (ad 6 2)), (2, .int 2), (1, .int (nI ((0 + xn Z 9 0) + xn Z 9 1))), (0, .ref (ad 0 0))]) hx hb d_KG_cancel_15 rfl hl (by decide) rfl (fun ls hl => ?_)
  have hs2 : xn (x_can2 Z) 9 2 = xn Z 9 2 := by unfold x_can2 x_can1; rw [x_clr_xn _ _ _ _ _ (Or.inr (by decide)), x_clr_xn _ _ _ _ _ (Or.inr (by decide))]
  have hpk2 : PileOk (x_can2 Z) 2 := (hcp 2 (by decide)).at hs2 (by unfold x_can2 x_can1; rw [x_clr_xn _ _ _ _ _ (Or.inl (by decide)), x_clr_xn _ _ _ _ _ (Or.inl (by decide))]) (fun j => by unfold x_can2 x_can1; rw [x_clr_xc, x_clr_xc])
  refine lp_KG_cancel 2 (by decide) hC (xn Z 9 2) (x_can2 Z) ((0 + xn Z 9 0) + xn Z 9 1) ls H locs hs2 hX2 hpk2 hd (lv_sub hl [2, 1, 0, 3] rfl) (fun ls H locs hd hl => ?_)
  have hX3 : XS (x_can3 Z) := x_clr_XS 2 _ hX2
  have hd : Dy G ad ow (x_can3 Z) s H locs := hd
  have hl : lv_has ls 4 [(1, .int (nI (((0 + xn Z 9 0) + xn Z 9 1) + xn Z 9 2))), (2, .int 2), (3, .ref (ad 6 2)), (0, .ref (ad 0 0))] := hl
  refine lv_iinc (v := 3) (lv' := [(2, .int 3), (1, .int (nI (((0 + xn Z 9 0) + xn Z 9 1) + xn Z 9 2))), (3, .ref (ad 6 2)), (0, .ref (ad 0 0))]) hx hb d_KG_cancel_47 hl (k := 1) rfl (by decide) (by decide) rfl (fun ls hl => ?_)
  refine lv_goto (tgt := 4) hx hb d_KG_cancel_50 (by decide) ?_
  refine lv_iload_n hx hb d_KG_cancel_4 rfl (lv_at hl 0 rfl) ?_
  refine lv_iconst (v := 4) hx hb d_KG_cancel_5 (by decide) ?_
  refine lv_icmp_gt (tgt := 53) hx hb d_KG_cancel_6 (by decide) (fun c => absurd c (by decide)) (fun _ => ?_)
  refine lv_aload_n hx hb d_KG_cancel_9 rfl (lv_at hl 3 rfl) ?_
  refine zget hC hd (e_kg hX3.kg) rfl i_KG 1 (by decide) q_81 (Or.inl rfl) (v := .ref (ad 8 0)) rfl d_KG_cancel_10 ?_
  refine lv_iload_n hx hb d_KG_cancel_13 rfl (lv_at hl 0 rfl) ?_
  refine zaaP (k := 3) hC hd (e_piles hX3.ps) (by omega) (by decide) rfl d_KG_cancel_14 ?_
  refine lv_astore_n (lv' := [(3, .ref (ad 6 3)), (2, .int 3), (1, .int (nI (((0 + xn Z 9 0) + xn Z 9 1) + xn Z 9 2))), (0, .ref (ad 0 0))]) hx hb d_KG_cancel_15 rfl hl (by decide) rfl (fun ls hl => ?_)
  have hs3 : xn (x_can3 Z) 9 3 = xn Z 9 3 := by unfold x_can3 x_can2 x_can1; rw [x_clr_xn _ _ _ _ _ (Or.inr (by decide)), x_clr_xn _ _ _ _ _ (Or.inr (by decide)), x_clr_xn _ _ _ _ _ (Or.inr (by decide))]
  have hpk3 : PileOk (x_can3 Z) 3 := (hcp 3 (by decide)).at hs3 (by unfold x_can3 x_can2 x_can1; rw [x_clr_xn _ _ _ _ _ (Or.inl (by decide)), x_clr_xn _ _ _ _ _ (Or.inl (by decide)), x_clr_xn _ _ _ _ _ (Or.inl (by decide))]) (fun j => by unfold x_can3 x_can2 x_can1; rw [x_clr_xc, x_clr_xc, x_clr_xc])
  refine lp_KG_cancel 3 (by decide) hC (xn Z 9 3) (x_can3 Z) (((0 + xn Z 9 0) + xn Z 9 1) + xn Z 9 2) ls H locs hs3 hX3 hpk3 hd (lv_sub hl [2, 1, 0, 3] rfl) (fun ls H locs hd hl => ?_)
  have hX4 : XS (x_can4 Z) := x_clr_XS 3 _ hX3
  have hd : Dy G ad ow (x_can4 Z) s H locs := hd
  have hl : lv_has ls 4 [(1, .int (nI ((((0 + xn Z 9 0) + xn Z 9 1) + xn Z 9 2) + xn Z 9 3))), (2, .int 3), (3, .ref (ad 6 3)), (0, .ref (ad 0 0))] := hl
  refine lv_iinc (v := 4) (lv' := [(2, .int 4), (1, .int (nI ((((0 + xn Z 9 0) + xn Z 9 1) + xn Z 9 2) + xn Z 9 3))), (3, .ref (ad 6 3)), (0, .ref (ad 0 0))]) hx hb d_KG_cancel_47 hl (k := 1) rfl (by decide) (by decide) rfl (fun ls hl => ?_)
  refine lv_goto (tgt := 4) hx hb d_KG_cancel_50 (by decide) ?_
  refine lv_iload_n hx hb d_KG_cancel_4 rfl (lv_at hl 0 rfl) ?_
  refine lv_iconst (v := 4) hx hb d_KG_cancel_5 (by decide) ?_
  refine lv_icmp_gt (tgt := 53) hx hb d_KG_cancel_6 (by decide) (fun c => absurd c (by decide)) (fun _ => ?_)
  refine lv_aload_n hx hb d_KG_cancel_9 rfl (lv_at hl 3 rfl) ?_
  refine zget hC hd (e_kg hX4.kg) rfl i_KG 1 (by decide) q_81 (Or.inl rfl) (v := .ref (ad 8 0)) rfl d_KG_cancel_10 ?_
  refine lv_iload_n hx hb d_KG_cancel_13 rfl (lv_at hl 0 rfl) ?_
  refine zaaP (k := 4) hC hd (e_piles hX4.ps) (by omega) (by decide) rfl d_KG_cancel_14 ?_
  refine lv_astore_n (lv' := [(3, .ref (ad 6 4)), (2, .int 4), (1, .int (nI ((((0 + xn Z 9 0) + xn Z 9 1) + xn Z 9 2) + xn Z 9 3))), (0, .ref (ad 0 0))]) hx hb d_KG_cancel_15 rfl hl (by decide) rfl (fun ls hl => ?_)
  have hs4 : xn (x_can4 Z) 9 4 = xn Z 9 4 := by unfold x_can4 x_can3 x_can2 x_can1; rw [x_clr_xn _ _ _ _ _ (Or.inr (by decide)), x_clr_xn _ _ _ _ _ (Or.inr (by decide)), x_clr_xn _ _ _ _ _ (Or.inr (by decide)), x_clr_xn _ _ _ _ _ (Or.inr (by decide))]
  have hpk4 : PileOk (x_can4 Z) 4 := (hcp 4 (by decide)).at hs4 (by unfold x_can4 x_can3 x_can2 x_can1; rw [x_clr_xn _ _ _ _ _ (Or.inl (by decide)), x_clr_xn _ _ _ _ _ (Or.inl (by decide)), x_clr_xn _ _ _ _ _ (Or.inl (by decide)), x_clr_xn _ _ _ _ _ (Or.inl (by decide))]) (fun j => by unfold x_can4 x_can3 x_can2 x_can1; rw [x_clr_xc, x_clr_xc, x_clr_xc, x_clr_xc])
  refine lp_KG_cancel 4 (by decide) hC (xn Z 9 4) (x_can4 Z) ((((0 + xn Z 9 0) + xn Z 9 1) + xn Z 9 2) + xn Z 9 3) ls H locs hs4 hX4 hpk4 hd (lv_sub hl [2, 1, 0, 3] rfl) (fun ls H locs hd hl => ?_)
  have hX5 : XS (x_cancel Z) := x_clr_XS 4 _ hX4
  have hd : Dy G ad ow (x_cancel Z) s H locs := hd
  have hl : lv_has ls 4 [(1, .int (nI (((((0 + xn Z 9 0) + xn Z 9 1) + xn Z 9 2) + xn Z 9 3) + xn Z 9 4))), (2, .int 4), (3, .ref (ad 6 4)), (0, .ref (ad 0 0))] := hl
  refine lv_iinc (v := 5) (lv' := [(2, .int 5), (1, .int (nI (((((0 + xn Z 9 0) + xn Z 9 1) + xn Z 9 2) + xn Z 9 3) + xn Z 9 4))), (3, .ref (ad 6 4)), (0, .ref (ad 0 0))]) hx hb d_KG_cancel_47 hl (k := 1) rfl (by decide) (by decide) rfl (fun ls hl => ?_)
  refine lv_goto (tgt := 4) hx hb d_KG_cancel_50 (by decide) ?_
  refine lv_iload_n hx hb d_KG_cancel_4 rfl (lv_at hl 0 rfl) ?_
  refine lv_iconst (v := 4) hx hb d_KG_cancel_5 (by decide) ?_
  refine lv_icmp_gt (tgt := 53) hx hb d_KG_cancel_6 (by decide) (fun _ => ?_) (fun c => absurd c (by decide))
  refine lv_iload_n hx hb d_KG_cancel_53 rfl (lv_at hl 1 rfl) ?_
  exact zfi hC hd hr hlk d_KG_cancel_54 rfl rfl
def x_raise (Z : Zt) : Zt := si (x_cancel Z) 14 0 (xi Z 14 0 + 1)
set_option maxHeartbeats 4000000 in
theorem c_KG_raise (l : Launch) (G : Gt) (ad : Nat → Nat → Nat) (ow : Nat → Nat × Nat) (Z : Zt) (hX : XS Z) (hcp : CancelPre Z) : Met l y_KG_raise w_KG_raise ({ frames := 2, cells := 0, slots := 0, locals := 43 }) (zPc G ad ow Z [.ref (ad 0 0)]) (Qd G ad ow (x_raise Z) (none)) 0 0 (zA G) := by
  refine zopen (cc := b_KG_raise) (maxL := 1) (ret := none) (by decide) rfl (Nat.le_of_ble_eq_true rfl) ?_
  intro p e s m below meth c ls hC hr hlk hnm hd hl
  have hC : Cx G p c m s _ "KeyGraph" b_KG_raise 1 := hC
  have hl : lv_has ls 1 [(0, .ref (ad 0 0))] := hl
  have hx := hC.1
  have hb := hC.2.1
  refine lv_aload_n hx hb d_KG_raise_0 rfl (lv_at hl 0 rfl) ?_
  refine zb_i (r := (nI (x_cancelN Z))) hd (zrunV (n := 0) (rest := []) hC hd (e_kg hX.kg) rfl (c_KG_cancel l G ad ow Z hX hcp) q_390 q_391 q_392 q_1 q_393 rfl rfl rfl (by decide +kernel) ⟨by decide, by decide⟩ rfl hl.1 (Nat.le_of_ble_eq_true rfl) d_KG_raise_1 ⟨by decide, by decide⟩) (fun H locs hd => ?_)
  have hXc := x_can_XS hX
  refine lv_pop hx hb d_KG_raise_4 rfl ?_
  refine lv_aload_n hx hb d_KG_raise_5 rfl (lv_at hl 0 rfl) ?_
  refine lv_dup hx hb d_KG_raise_6 rfl ?_
  refine zget hC hd (e_kg hXc.kg) rfl i_KG 3 (by decide) q_83 (Or.inl rfl) (v := .int (xi (x_cancel Z) 14 0)) rfl d_KG_raise_7 ?_
  refine lv_iconst (v := 1) hx hb d_KG_raise_10 (by decide) ?_
  refine lv_iadd hx hb d_KG_raise_11 ?_
  refine zput (Z' := (si (x_cancel Z) 14 0 ((xi (x_cancel Z) 14 0) + 1))) (v := .int ((xi (x_cancel Z) 14 0) + 1)) hC hd (e_kg hXc.kg) rfl i_KG t_KG t_KG_ok n_KG 3 (by decide) q_83 (Or.inl rfl) rfl rfl rfl (Nat.le_of_ble_eq_true rfl) (u_ver hXc.kg) d_KG_raise_12 (fun H locs hd => ?_)
  exact zfv hC hd hr hlk d_KG_raise_15 (by unfold x_raise; rw [x_can_xi Z 14 0 (by decide)])
set_option maxHeartbeats 4000000 in
theorem c_KG_version (l : Launch) (G : Gt) (ad : Nat → Nat → Nat) (ow : Nat → Nat × Nat) (Z : Zt) (hX : XS Z) : Met l y_KG_version w_KG_version ({ frames := 0, cells := 0, slots := 0, locals := 0 }) (zPc G ad ow Z [.ref (ad 0 0)]) (Qd G ad ow Z (some (.int (xi Z 14 0)))) 0 0 (zA G) := by
  refine zopen (cc := b_KG_version) (maxL := 1) (ret := (some FieldType.int)) (by decide) rfl (Nat.le_of_ble_eq_true rfl) ?_
  intro p e s m below meth c ls hC hr hlk hnm hd hl
  have hC : Cx G p c m s _ "KeyGraph" b_KG_version 1 := hC
  have hl : lv_has ls 1 [(0, .ref (ad 0 0))] := hl
  have hx := hC.1
  have hb := hC.2.1
  refine lv_aload_n hx hb d_KG_version_0 rfl (lv_at hl 0 rfl) ?_
  refine zget hC hd (e_kg hX.kg) rfl i_KG 3 (by decide) q_83 (Or.inl rfl) (v := .int (xi Z 14 0)) rfl d_KG_version_1 ?_
  exact zfi hC hd hr hlk d_KG_version_4 rfl rfl
def x_worked (Z : Zt) (k : Int32) : Int32 := if x_isKey Z k = 0 then 0 else xi Z 5 k.toNatClampNeg
def x_keptR (Z : Zt) (k : Int32) : Int32 := if x_isKey Z k = 0 then 0 else xi Z 6 k.toNatClampNeg
def x_changed (Z : Zt) (k : Int32) : Int32 := if x_isKey Z k = 0 then -1 else if xi Z 1 k.toNatClampNeg ≤ 0 then -1 else xi Z 2 k.toNatClampNeg
def x_state (Z : Zt) (k : Int32) : Int32 := if x_isKey Z k = 0 then 0 else if x_isSure Z k.toNatClampNeg = 0 then 0 else xi Z 1 k.toNatClampNeg
def x_asked (Z : Zt) (k i : Int32) : Int32 := if x_isFn Z k = 0 then -1 else if xi Z 1 k.toNatClampNeg = 0 then -1 else if i < 0 then -1 else if i < nI (xn Z 4 k.toNatClampNeg) then nI (xc Z 5 (xn Z 7 k.toNatClampNeg) i.toNatClampNeg) else -1
def x_ring (Z : Zt) (i : Int32) : Int32 := if i < 0 then -1 else if i < nI (xn Z 2 1) then nI (xc Z 4 1 i.toNatClampNeg - 1) else -1
def x_change (Z : Zt) (k : Int32) (v : Int64) : Zt × Int32 := if x_isKey Z k = 0 then (Z, -1) else if xn Z 1 k.toNatClampNeg = 6 then (if xl Z 1 k.toNatClampNeg = v then (Z, xi Z 14 0) else (si (sl (x_raise Z) 1 k.toNatClampNeg v) 2 k.toNatClampNeg (xi Z 14 0 + 1), xi Z 14 0 + 1)) else (Z, -1)
def x_spoil (Z : Zt) (k b : Int32) : Zt × Int32 := if x_isFn Z k = 0 then (Z, -1) else if xi Z 7 k.toNatClampNeg = b then (Z, xi Z 14 0) else (si (si (x_raise Z) 7 k.toNatClampNeg b) 4 k.toNatClampNeg (xi Z 14 0 + 1), xi Z 14 0 + 1)
def x_drop (Z : Zt) (k : Int32) : Zt × Int32 := if x_isFn Z k = 0 then (Z, 0) else if xi Z 1 k.toNatClampNeg = 0 then (Z, 0) else (si (x_cancel Z) 1 k.toNatClampNeg 0, 1)
def x_beginR (Z : Zt) (w k : Int32) : Zt × Int32 := if x_isWorker w = 0 then (Z, -1) else if x_isKey Z k = 0 then (Z, -1) else if xn Z 9 w.toNatClampNeg = 0 then (if x_isSure Z k.toNatClampNeg = 0 then (if xi Z 8 k.toNatClampNeg < 0 then (x_put Z w.toNatClampNeg k.toNatClampNeg, 1) else (Z, -2)) else (Z, 0)) else (Z, -1)
def x_step (Z : Zt) (w : Int32) : Zt × Int32 := if x_isWorker w = 0 then (Z, -1) else x_stepOf Z w.toNatClampNeg
theorem x_isFn_cases (Z : Zt) (hX : XS Z) (k : Int32) : x_isFn Z k = 0 ∨ ∃ j, j < xn Z 0 1 ∧ k = nI j ∧ x_isFn Z k = 1 ∧ ¬ xn Z 1 j = 6 := by
  have h40 := hX.k40
  have hkl := hX.kl
  rcases x_isKey_cases Z k (by omega) with h0 | ⟨j, hj, rfl, h0⟩
  · exact Or.inl (by unfold x_isFn; rw [if_pos h0])
  · have hcl : (nI j).toNatClampNeg = j := nI_clamp (by omega)
    by_cases h1 : xn Z 1 j = 6
    · exact Or.inl (by unfold x_isFn; rw [if_neg (by rw [h0]; decide), hcl, if_pos h1])
    · exact Or.inr ⟨j, by omega, rfl, by unfold x_isFn; rw [if_neg (by rw [h0]; decide), hcl, if_neg h1], h1⟩
theorem x_isWorker_cases (w : Int32) : x_isWorker w = 0 ∨ ∃ u, u < 4 ∧ w = nI u ∧ x_isWorker w = 1 := by
  unfold x_isWorker
  by_cases h1 : w < 0
  · exact Or.inl (if_pos h1)
  · by_cases h2 : 4 ≤ w
    · exact Or.inl (by rw [if_neg h1, if_pos h2])
    · obtain ⟨j, hj, rfl⟩ := nI_of h1
      exact Or.inr ⟨j, Nat.not_le.mp fun q => h2 (nI_le (a := 4) q hj), rfl, by rw [if_neg h1, if_neg h2]⟩

set_option maxHeartbeats 4000000 in
theorem c_KG_worked_no (l : Launch) (G : Gt) (ad : Nat → Nat → Nat) (ow : Nat → Nat × Nat) (Z : Zt) (hX : XS Z) (k : Int32) (h0 : x_isKey Z k = 0) : Met l y_KG_worked w_KG_worked ({ frames := 3, cells := 0, slots := 0, locals := 64 }) (zPc G ad ow Z [.ref (ad 0 0), .int k]) (Qd G ad ow Z (some (.int (x_worked Z k)))) 0 0 (zA G) := by
  refine zopen (cc := b_KG_worked) (maxL := 2) (ret := (some FieldType.int)) (by decide) rfl (Nat.le_of_ble_eq_true rfl) ?_
  intro p e s m below meth c ls hC hr hlk hnm hd hl
  have hC : Cx G p c m s _ "KeyGraph" b_KG_worked 2 := hC
  have hl : lv_has ls 2 [(0, .ref (ad 0 0)), (1, .int k)] := hl
  have hx := hC.1
  have hb := hC.2.1
  refine lv_aload_n hx hb d_KG_worked_0 rfl (lv_at hl 0 rfl) ?_
  refine lv_iload_n hx hb d_KG_worked_1 rfl (lv_at hl 1 rfl) ?_
  refine zb_i (r := 0) hd (zrunV (n := 1) (rest := []) hC hd (e_kg hX.kg) rfl (c_KG_isKey l G ad ow Z hX k 0 h0) q_348 q_350 qp_4 q_1 q_351 rfl rfl rfl (by decide +kernel) ⟨by decide, by decide⟩ rfl hl.1 (Nat.le_of_ble_eq_true rfl) d_KG_worked_2 ⟨by decide, by decide⟩) (fun H locs hd => ?_)
  refine lv_if_eq (tgt := 25) hx hb d_KG_worked_5 (by decide) (fun _ => ?_) (fun c => absurd c (by decide))
  refine lv_iconst (v := 0) hx hb d_KG_worked_25 (by decide) ?_
  exact zfi hC hd hr hlk d_KG_worked_26 (by unfold x_worked; (repeat (first | (rw [if_pos]; rotate_left; first | assumption | decide) | (rw [if_neg]; rotate_left; first | assumption | decide))) <;> (try rfl)) rfl
set_option maxHeartbeats 4000000 in
theorem c_KG_worked_yes (l : Launch) (G : Gt) (ad : Nat → Nat → Nat) (ow : Nat → Nat × Nat) (Z : Zt) (hX : XS Z) (k : Nat) (hk : k < xn Z 0 1) (h0 : x_isKey Z (nI k) = 1) : Met l y_KG_worked w_KG_worked ({ frames := 3, cells := 0, slots := 0, locals := 64 }) (zPc G ad ow Z [.ref (ad 0 0), .int (nI k)]) (Qd G ad ow Z (some (.int (x_worked Z (nI k))))) 0 0 (zA G) := by
  refine zopen (cc := b_KG_worked) (maxL := 2) (ret := (some FieldType.int)) (by decide) rfl (Nat.le_of_ble_eq_true rfl) ?_
  intro p e s m below meth c ls hC hr hlk hnm hd hl
  have hC : Cx G p c m s _ "KeyGraph" b_KG_worked 2 := hC
  have hl : lv_has ls 2 [(0, .ref (ad 0 0)), (1, .int (nI k))] := hl
  have hx := hC.1
  have hb := hC.2.1
  have h40 := hX.k40
  have hcl : (nI k).toNatClampNeg = k := nI_clamp (by omega)
  have h0n : ¬ x_isKey Z (nI k) = 0 := by rw [h0]; decide
  refine lv_aload_n hx hb d_KG_worked_0 rfl (lv_at hl 0 rfl) ?_
  refine lv_iload_n hx hb d_KG_worked_1 rfl (lv_at hl 1 rfl) ?_
  refine zb_i (r := 1) hd (zrunV (n := 1) (rest := []) hC hd (e_kg hX.kg) rfl (c_KG_isKey l G ad ow Z hX (nI k) 1 h0) q_348 q_350 qp_4 q_1 q_351 rfl rfl rfl (by decide +kernel) ⟨by decide, by decide⟩ rfl hl.1 (Nat.le_of_ble_eq_true rfl) d_KG_worked_2 ⟨by decide, by decide⟩) (fun H locs hd => ?_)
  refine lv_if_eq (tgt := 25) hx hb d_KG_worked_5 (by decide) (fun c => absurd c (by decide)) (fun _ => ?_)
  refine lv_aload_n hx hb d_KG_worked_8 rfl (lv_at hl 0 rfl) ?_
  refine zget hC hd (e_kg hX.kg) rfl i_KG 0 (by decide) q_80 (Or.inl rfl) (v := .ref (ad 3 0)) rfl d_KG_worked_9 ?_
  refine lv_iload_n hx hb d_KG_worked_12 rfl (lv_at hl 1 rfl) ?_
  refine zb_a (r := (ad 1 k)) hd (zrunV (n := 1) (rest := []) hC hd (e_list hX.l0) rfl (c_get l G ad ow Z hX 0 k k hX.l0 (show k < xn Z 2 0 by rw [hX.kl]; exact hk) (hX.ke hk)) q_352 q_353 q_354 q_4 q_355 rfl rfl rfl (by decide +kernel) ⟨by decide, by decide⟩ rfl hl.1 (Nat.le_of_ble_eq_true rfl) d_KG_worked_13 ⟨by decide, by decide⟩) (fun H locs hd => ?_)
  refine zcast hC hd (e_key hk) q_105 d_KG_worked_16 ?_
  refine zgetN hC hd (e_key hk) rfl i_Key 8 (by decide) z_125 (Or.inl rfl) (v := .int (xi Z 5 k)) rfl d_KG_worked_19 ?_
  refine lv_goto (tgt := 26) hx hb d_KG_worked_22 (by decide) ?_
  exact zfi hC hd hr hlk d_KG_worked_26 (by unfold x_worked; rw [hcl]; (repeat (first | (rw [if_pos]; rotate_left; first | assumption | decide) | (rw [if_neg]; rotate_left; first | assumption | decide))) <;> (try rfl)) rfl
theorem c_KG_worked (l : Launch) (G : Gt) (ad : Nat → Nat → Nat) (ow : Nat → Nat × Nat) (Z : Zt) (hX : XS Z) (k : Int32) : Met l y_KG_worked w_KG_worked ({ frames := 3, cells := 0, slots := 0, locals := 64 }) (zPc G ad ow Z [.ref (ad 0 0), .int k]) (Qd G ad ow Z (some (.int (x_worked Z k)))) 0 0 (zA G) := by
  have h40 := hX.k40
  have hkl := hX.kl
  rcases x_isKey_cases Z k (by omega) with h0 | ⟨j, hj, rfl, h0⟩
  · exact c_KG_worked_no l G ad ow Z hX  k  h0
  · exact c_KG_worked_yes l G ad ow Z hX  j  (by omega) h0
set_option maxHeartbeats 4000000 in
theorem c_KG_kept_no (l : Launch) (G : Gt) (ad : Nat → Nat → Nat) (ow : Nat → Nat × Nat) (Z : Zt) (hX : XS Z) (k : Int32) (h0 : x_isKey Z k = 0) : Met l y_KG_kept w_KG_kept ({ frames := 3, cells := 0, slots := 0, locals := 64 }) (zPc G ad ow Z [.ref (ad 0 0), .int k]) (Qd G ad ow Z (some (.int (x_keptR Z k)))) 0 0 (zA G) := by
  refine zopen (cc := b_KG_kept) (maxL := 2) (ret := (some FieldType.int)) (by decide) rfl (Nat.le_of_ble_eq_true rfl) ?_
  intro p e s m below meth c ls hC hr hlk hnm hd hl
  have hC : Cx G p c m s _ "KeyGraph" b_KG_kept 2 := hC
  have hl : lv_has ls 2 [(0, .ref (ad 0 0)), (1, .int k)] := hl
  have hx := hC.1
  have hb := hC.2.1
  refine lv_aload_n hx hb d_KG_kept_0 rfl (lv_at hl 0 rfl) ?_
  refine lv_iload_n hx hb d_KG_kept_1 rfl (lv_at hl 1 rfl) ?_
  refine zb_i (r := 0) hd (zrunV (n := 1) (rest := []) hC hd (e_kg hX.kg) rfl (c_KG_isKey l G ad ow Z hX k 0 h0) q_348 q_350 qp_4 q_1 q_351 rfl rfl rfl (by decide +kernel) ⟨by decide, by decide⟩ rfl hl.1 (Nat.le_of_ble_eq_true rfl) d_KG_kept_2 ⟨by decide, by decide⟩) (fun H locs hd => ?_)
  refine lv_if_eq (tgt := 25) hx hb d_KG_kept_5 (by decide) (fun _ => ?_) (fun c => absurd c (by decide))
  refine lv_iconst (v := 0) hx hb d_KG_kept_25 (by decide) ?_
  exact zfi hC hd hr hlk d_KG_kept_26 (by unfold x_keptR; (repeat (first | (rw [if_pos]; rotate_left; first | assumption | decide) | (rw [if_neg]; rotate_left; first | assumption | decide))) <;> (try rfl)) rfl
set_option maxHeartbeats 4000000 in
theorem c_KG_kept_yes (l : Launch) (G : Gt) (ad : Nat → Nat → Nat) (ow : Nat → Nat × Nat) (Z : Zt) (hX : XS Z) (k : Nat) (hk : k < xn Z 0 1) (h0 : x_isKey Z (nI k) = 1) : Met l y_KG_kept w_KG_kept ({ frames := 3, cells := 0, slots := 0, locals := 64 }) (zPc G ad ow Z [.ref (ad 0 0), .int (nI k)]) (Qd G ad ow Z (some (.int (x_keptR Z (nI k))))) 0 0 (zA G) := by
  refine zopen (cc := b_KG_kept) (maxL := 2) (ret := (some FieldType.int)) (by decide) rfl (Nat.le_of_ble_eq_true rfl) ?_
  intro p e s m below meth c ls hC hr hlk hnm hd hl
  have hC : Cx G p c m s _ "KeyGraph" b_KG_kept 2 := hC
  have hl : lv_has ls 2 [(0, .ref (ad 0 0)), (1, .int (nI k))] := hl
  have hx := hC.1
  have hb := hC.2.1
  have h40 := hX.k40
  have hcl : (nI k).toNatClampNeg = k := nI_clamp (by omega)
  have h0n : ¬ x_isKey Z (nI k) = 0 := by rw [h0]; decide
  refine lv_aload_n hx hb d_KG_kept_0 rfl (lv_at hl 0 rfl) ?_
  refine lv_iload_n hx hb d_KG_kept_1 rfl (lv_at hl 1 rfl) ?_
  refine zb_i (r := 1) hd (zrunV (n := 1) (rest := []) hC hd (e_kg hX.kg) rfl (c_KG_isKey l G ad ow Z hX (nI k) 1 h0) q_348 q_350 qp_4 q_1 q_351 rfl rfl rfl (by decide +kernel) ⟨by decide, by decide⟩ rfl hl.1 (Nat.le_of_ble_eq_true rfl) d_KG_kept_2 ⟨by decide, by decide⟩) (fun H locs hd => ?_)
  refine lv_if_eq (tgt := 25) hx hb d_KG_kept_5 (by decide) (fun c => absurd c (by decide)) (fun _ => ?_)
  refine lv_aload_n hx hb d_KG_kept_8 rfl (lv_at hl 0 rfl) ?_
  refine zget hC hd (e_kg hX.kg) rfl i_KG 0 (by decide) q_80 (Or.inl rfl) (v := .ref (ad 3 0)) rfl d_KG_kept_9 ?_
  refine lv_iload_n hx hb d_KG_kept_12 rfl (lv_at hl 1 rfl) ?_
  refine zb_a (r := (ad 1 k)) hd (zrunV (n := 1) (rest := []) hC hd (e_list hX.l0) rfl (c_get l G ad ow Z hX 0 k k hX.l0 (show k < xn Z 2 0 by rw [hX.kl]; exact hk) (hX.ke hk)) q_352 q_353 q_354 q_4 q_355 rfl rfl rfl (by decide +kernel) ⟨by decide, by decide⟩ rfl hl.1 (Nat.le_of_ble_eq_true rfl) d_KG_kept_13 ⟨by decide, by decide⟩) (fun H locs hd => ?_)
  refine zcast hC hd (e_key hk) q_105 d_KG_kept_16 ?_
  refine zgetN hC hd (e_key hk) rfl i_Key 9 (by decide) z_126 (Or.inl rfl) (v := .int (xi Z 6 k)) rfl d_KG_kept_19 ?_
  refine lv_goto (tgt := 26) hx hb d_KG_kept_22 (by decide) ?_
  exact zfi hC hd hr hlk d_KG_kept_26 (by unfold x_keptR; rw [hcl]; (repeat (first | (rw [if_pos]; rotate_left; first | assumption | decide) | (rw [if_neg]; rotate_left; first | assumption | decide))) <;> (try rfl)) rfl
theorem c_KG_kept (l : Launch) (G : Gt) (ad : Nat → Nat → Nat) (ow : Nat → Nat × Nat) (Z : Zt) (hX : XS Z) (k : Int32) : Met l y_KG_kept w_KG_kept ({ frames := 3, cells := 0, slots := 0, locals := 64 }) (zPc G ad ow Z [.ref (ad 0 0), .int k]) (Qd G ad ow Z (some (.int (x_keptR Z k)))) 0 0 (zA G) := by
  have h40 := hX.k40
  have hkl := hX.kl
  rcases x_isKey_cases Z k (by omega) with h0 | ⟨j, hj, rfl, h0⟩
  · exact c_KG_kept_no l G ad ow Z hX  k  h0
  · exact c_KG_kept_yes l G ad ow Z hX  j  (by omega) h0
set_option maxHeartbeats 4000000 in
theorem c_KG_changed_no (l : Launch) (G : Gt) (ad : Nat → Nat → Nat) (ow : Nat → Nat × Nat) (Z : Zt) (hX : XS Z) (k : Int32) (h0 : x_isKey Z k = 0) : Met l y_KG_changed w_KG_changed ({ frames := 3, cells := 0, slots := 0, locals := 64 }) (zPc G ad ow Z [.ref (ad 0 0), .int k]) (Qd G ad ow Z (some (.int (x_changed Z k)))) 0 0 (zA G) := by
  refine zopen (cc := b_KG_changed) (maxL := 2) (ret := (some FieldType.int)) (by decide) rfl (Nat.le_of_ble_eq_true rfl) ?_
  intro p e s m below meth c ls hC hr hlk hnm hd hl
  have hC : Cx G p c m s _ "KeyGraph" b_KG_changed 2 := hC
  have hl : lv_has ls 2 [(0, .ref (ad 0 0)), (1, .int k)] := hl
  have hx := hC.1
  have hb := hC.2.1
  refine lv_aload_n hx hb d_KG_changed_0 rfl (lv_at hl 0 rfl) ?_
  refine lv_iload_n hx hb d_KG_changed_1 rfl (lv_at hl 1 rfl) ?_
  refine zb_i (r := 0) hd (zrunV (n := 1) (rest := []) hC hd (e_kg hX.kg) rfl (c_KG_isKey l G ad ow Z hX k 0 h0) q_348 q_350 qp_4 q_1 q_351 rfl rfl rfl (by decide +kernel) ⟨by decide, by decide⟩ rfl hl.1 (Nat.le_of_ble_eq_true rfl) d_KG_changed_2 ⟨by decide, by decide⟩) (fun H locs hd => ?_)
  refine lv_if_eq (tgt := 42) hx hb d_KG_changed_5 (by decide) (fun _ => ?_) (fun c => absurd c (by decide))
  refine lv_iconst (v := (-1)) hx hb d_KG_changed_42 (by decide) ?_
  exact zfi hC hd hr hlk d_KG_changed_43 (by unfold x_changed; (repeat (first | (rw [if_pos]; rotate_left; first | assumption | decide) | (rw [if_neg]; rotate_left; first | assumption | decide))) <;> (try rfl)) rfl
set_option maxHeartbeats 4000000 in
theorem c_KG_changed_yes (l : Launch) (G : Gt) (ad : Nat → Nat → Nat) (ow : Nat → Nat × Nat) (Z : Zt) (hX : XS Z) (k : Nat) (hk : k < xn Z 0 1) (h0 : x_isKey Z (nI k) = 1) : Met l y_KG_changed w_KG_changed ({ frames := 3, cells := 0, slots := 0, locals := 64 }) (zPc G ad ow Z [.ref (ad 0 0), .int (nI k)]) (Qd G ad ow Z (some (.int (x_changed Z (nI k))))) 0 0 (zA G) := by
  refine zopen (cc := b_KG_changed) (maxL := 2) (ret := (some FieldType.int)) (by decide) rfl (Nat.le_of_ble_eq_true rfl) ?_
  intro p e s m below meth c ls hC hr hlk hnm hd hl
  have hC : Cx G p c m s _ "KeyGraph" b_KG_changed 2 := hC
  have hl : lv_has ls 2 [(0, .ref (ad 0 0)), (1, .int (nI k))] := hl
  have hx := hC.1
  have hb := hC.2.1
  have h40 := hX.k40
  have hcl : (nI k).toNatClampNeg = k := nI_clamp (by omega)
  have h0n : ¬ x_isKey Z (nI k) = 0 := by rw [h0]; decide
  refine lv_aload_n hx hb d_KG_changed_0 rfl (lv_at hl 0 rfl) ?_
  refine lv_iload_n hx hb d_KG_changed_1 rfl (lv_at hl 1 rfl) ?_
  refine zb_i (r := 1) hd (zrunV (n := 1) (rest := []) hC hd (e_kg hX.kg) rfl (c_KG_isKey l G ad ow Z hX (nI k) 1 h0) q_348 q_350 qp_4 q_1 q_351 rfl rfl rfl (by decide +kernel) ⟨by decide, by decide⟩ rfl hl.1 (Nat.le_of_ble_eq_true rfl) d_KG_changed_2 ⟨by decide, by decide⟩) (fun H locs hd => ?_)
  refine lv_if_eq (tgt := 42) hx hb d_KG_changed_5 (by decide) (fun c => absurd c (by decide)) (fun _ => ?_)
  refine lv_aload_n hx hb d_KG_changed_8 rfl (lv_at hl 0 rfl) ?_
  refine zget hC hd (e_kg hX.kg) rfl i_KG 0 (by decide) q_80 (Or.inl rfl) (v := .ref (ad 3 0)) rfl d_KG_changed_9 ?_
  refine lv_iload_n hx hb d_KG_changed_12 rfl (lv_at hl 1 rfl) ?_
  refine zb_a (r := (ad 1 k)) hd (zrunV (n := 1) (rest := []) hC hd (e_list hX.l0) rfl (c_get l G ad ow Z hX 0 k k hX.l0 (show k < xn Z 2 0 by rw [hX.kl]; exact hk) (hX.ke hk)) q_352 q_353 q_354 q_4 q_355 rfl rfl rfl (by decide +kernel) ⟨by decide, by decide⟩ rfl hl.1 (Nat.le_of_ble_eq_true rfl) d_KG_changed_13 ⟨by decide, by decide⟩) (fun H locs hd => ?_)
  refine zcast hC hd (e_key hk) q_105 d_KG_changed_16 ?_
  refine zgetN hC hd (e_key hk) rfl i_Key 3 (by decide) z_119 (Or.inl rfl) (v := .int (xi Z 1 k)) rfl d_KG_changed_19 ?_
  refine lv_if_le (tgt := 42) hx hb d_KG_changed_22 (by decide) (fun c22 => ?_) (fun c22 => ?_)
  · refine lv_iconst (v := (-1)) hx hb d_KG_changed_42 (by decide) ?_
    exact zfi hC hd hr hlk d_KG_changed_43 (by unfold x_changed; rw [hcl]; (repeat (first | (rw [if_pos]; rotate_left; first | assumption | decide) | (rw [if_neg]; rotate_left; first | assumption | decide))) <;> (try rfl)) rfl
  · refine lv_aload_n hx hb d_KG_changed_25 rfl (lv_at hl 0 rfl) ?_
    refine zget hC hd (e_kg hX.kg) rfl i_KG 0 (by decide) q_80 (Or.inl rfl) (v := .ref (ad 3 0)) rfl d_KG_changed_26 ?_
    refine lv_iload_n hx hb d_KG_changed_29 rfl (lv_at hl 1 rfl) ?_
    refine zb_a (r := (ad 1 k)) hd (zrunV (n := 1) (rest := []) hC hd (e_list hX.l0) rfl (c_get l G ad ow Z hX 0 k k hX.l0 (show k < xn Z 2 0 by rw [hX.kl]; exact hk) (hX.ke hk)) q_352 q_353 q_354 q_4 q_355 rfl rfl rfl (by decide +kernel) ⟨by decide, by decide⟩ rfl hl.1 (Nat.le_of_ble_eq_true rfl) d_KG_changed_30 ⟨by decide, by decide⟩) (fun H locs hd => ?_)
    refine zcast hC hd (e_key hk) q_105 d_KG_changed_33 ?_
    refine zgetN hC hd (e_key hk) rfl i_Key 5 (by decide) z_121 (Or.inl rfl) (v := .int (xi Z 2 k)) rfl d_KG_changed_36 ?_
    refine lv_goto (tgt := 43) hx hb d_KG_changed_39 (by decide) ?_
    exact zfi hC hd hr hlk d_KG_changed_43 (by unfold x_changed; rw [hcl]; (repeat (first | (rw [if_pos]; rotate_left; first | assumption | decide) | (rw [if_neg]; rotate_left; first | assumption | decide))) <;> (try rfl)) rfl
theorem c_KG_changed (l : Launch) (G : Gt) (ad : Nat → Nat → Nat) (ow : Nat → Nat × Nat) (Z : Zt) (hX : XS Z) (k : Int32) : Met l y_KG_changed w_KG_changed ({ frames := 3, cells := 0, slots := 0, locals := 64 }) (zPc G ad ow Z [.ref (ad 0 0), .int k]) (Qd G ad ow Z (some (.int (x_changed Z k)))) 0 0 (zA G) := by
  have h40 := hX.k40
  have hkl := hX.kl
  rcases x_isKey_cases Z k (by omega) with h0 | ⟨j, hj, rfl, h0⟩
  · exact c_KG_changed_no l G ad ow Z hX  k  h0
  · exact c_KG_changed_yes l G ad ow Z hX  j  (by omega) h0
set_option maxHeartbeats 4000000 in
theorem c_KG_state_no (l : Launch) (G : Gt) (ad : Nat → Nat → Nat) (ow : Nat → Nat × Nat) (Z : Zt) (hX : XS Z) (k : Int32) (h0 : x_isKey Z k = 0) : Met l y_KG_state w_KG_state ({ frames := 3, cells := 0, slots := 0, locals := 64 }) (zPc G ad ow Z [.ref (ad 0 0), .int k]) (Qd G ad ow Z (some (.int (x_state Z k)))) 0 0 (zA G) := by
  refine zopen (cc := b_KG_state) (maxL := 2) (ret := (some FieldType.int)) (by decide) rfl (Nat.le_of_ble_eq_true rfl) ?_
  intro p e s m below meth c ls hC hr hlk hnm hd hl
  have hC : Cx G p c m s _ "KeyGraph" b_KG_state 2 := hC
  have hl : lv_has ls 2 [(0, .ref (ad 0 0)), (1, .int k)] := hl
  have hx := hC.1
  have hb := hC.2.1
  refine lv_aload_n hx hb d_KG_state_0 rfl (lv_at hl 0 rfl) ?_
  refine lv_iload_n hx hb d_KG_state_1 rfl (lv_at hl 1 rfl) ?_
  refine zb_i (r := 0) hd (zrunV (n := 1) (rest := []) hC hd (e_kg hX.kg) rfl (c_KG_isKey l G ad ow Z hX k 0 h0) q_348 q_350 qp_4 q_1 q_351 rfl rfl rfl (by decide +kernel) ⟨by decide, by decide⟩ rfl hl.1 (Nat.le_of_ble_eq_true rfl) d_KG_state_2 ⟨by decide, by decide⟩) (fun H locs hd => ?_)
  refine lv_if_eq (tgt := 43) hx hb d_KG_state_5 (by decide) (fun _ => ?_) (fun c => absurd c (by decide))
  refine lv_iconst (v := 0) hx hb d_KG_state_43 (by decide) ?_
  exact zfi hC hd hr hlk d_KG_state_44 (by unfold x_state; (repeat (first | (rw [if_pos]; rotate_left; first | assumption | decide) | (rw [if_neg]; rotate_left; first | assumption | decide))) <;> (try rfl)) rfl
set_option maxHeartbeats 4000000 in
theorem c_KG_state_yes (l : Launch) (G : Gt) (ad : Nat → Nat → Nat) (ow : Nat → Nat × Nat) (Z : Zt) (hX : XS Z) (k : Nat) (hk : k < xn Z 0 1) (h0 : x_isKey Z (nI k) = 1) : Met l y_KG_state w_KG_state ({ frames := 3, cells := 0, slots := 0, locals := 64 }) (zPc G ad ow Z [.ref (ad 0 0), .int (nI k)]) (Qd G ad ow Z (some (.int (x_state Z (nI k))))) 0 0 (zA G) := by
  refine zopen (cc := b_KG_state) (maxL := 2) (ret := (some FieldType.int)) (by decide) rfl (Nat.le_of_ble_eq_true rfl) ?_
  intro p e s m below meth c ls hC hr hlk hnm hd hl
  have hC : Cx G p c m s _ "KeyGraph" b_KG_state 2 := hC
  have hl : lv_has ls 2 [(0, .ref (ad 0 0)), (1, .int (nI k))] := hl
  have hx := hC.1
  have hb := hC.2.1
  have h40 := hX.k40
  have hcl : (nI k).toNatClampNeg = k := nI_clamp (by omega)
  have h0n : ¬ x_isKey Z (nI k) = 0 := by rw [h0]; decide
  refine lv_aload_n hx hb d_KG_state_0 rfl (lv_at hl 0 rfl) ?_
  refine lv_iload_n hx hb d_KG_state_1 rfl (lv_at hl 1 rfl) ?_
  refine zb_i (r := 1) hd (zrunV (n := 1) (rest := []) hC hd (e_kg hX.kg) rfl (c_KG_isKey l G ad ow Z hX (nI k) 1 h0) q_348 q_350 qp_4 q_1 q_351 rfl rfl rfl (by decide +kernel) ⟨by decide, by decide⟩ rfl hl.1 (Nat.le_of_ble_eq_true rfl) d_KG_state_2 ⟨by decide, by decide⟩) (fun H locs hd => ?_)
  refine lv_if_eq (tgt := 43) hx hb d_KG_state_5 (by decide) (fun c => absurd c (by decide)) (fun _ => ?_)
  refine lv_aload_n hx hb d_KG_state_8 rfl (lv_at hl 0 rfl) ?_
  refine lv_aload_n hx hb d_KG_state_9 rfl (lv_at hl 0 rfl) ?_
  refine zget hC hd (e_kg hX.kg) rfl i_KG 0 (by decide) q_80 (Or.inl rfl) (v := .ref (ad 3 0)) rfl d_KG_state_10 ?_
  refine lv_iload_n hx hb d_KG_state_13 rfl (lv_at hl 1 rfl) ?_
  refine zb_a (r := (ad 1 k)) hd (zrunV (n := 1) (rest := [.ref (ad 0 0)]) hC hd (e_list hX.l0) rfl (c_get l G ad ow Z hX 0 k k hX.l0 (show k < xn Z 2 0 by rw [hX.kl]; exact hk) (hX.ke hk)) q_352 q_353 q_354 q_4 q_355 rfl rfl rfl (by decide +kernel) ⟨by decide, by decide⟩ rfl hl.1 (Nat.le_of_ble_eq_true rfl) d_KG_state_14 ⟨by decide, by decide⟩) (fun H locs hd => ?_)
  refine zcast hC hd (e_key hk) q_105 d_KG_state_17 ?_
  refine zb_i (r := (x_isSure Z k)) hd (zrunV (n := 1) (rest := []) hC hd (e_kg hX.kg) rfl (c_KG_isSure l G ad ow Z hX k (x_isSure Z k) hk rfl) q_421 q_423 qp_9 q_1 q_424 rfl rfl rfl (by decide +kernel) ⟨by decide, by decide⟩ rfl hl.1 (Nat.le_of_ble_eq_true rfl) d_KG_state_20 ⟨by decide, by decide⟩) (fun H locs hd => ?_)
  refine lv_if_eq (tgt := 43) hx hb d_KG_state_23 (by decide) (fun c23 => ?_) (fun c23 => ?_)
  · refine lv_iconst (v := 0) hx hb d_KG_state_43 (by decide) ?_
    exact zfi hC hd hr hlk d_KG_state_44 (by unfold x_state; rw [hcl]; (repeat (first | (rw [if_pos]; rotate_left; first | assumption | decide) | (rw [if_neg]; rotate_left; first | assumption | decide))) <;> (try rfl)) rfl
  · refine lv_aload_n hx hb d_KG_state_26 rfl (lv_at hl 0 rfl) ?_
    refine zget hC hd (e_kg hX.kg) rfl i_KG 0 (by decide) q_80 (Or.inl rfl) (v := .ref (ad 3 0)) rfl d_KG_state_27 ?_
    refine lv_iload_n hx hb d_KG_state_30 rfl (lv_at hl 1 rfl) ?_
    refine zb_a (r := (ad 1 k)) hd (zrunV (n := 1) (rest := []) hC hd (e_list hX.l0) rfl (c_get l G ad ow Z hX 0 k k hX.l0 (show k < xn Z 2 0 by rw [hX.kl]; exact hk) (hX.ke hk)) q_352 q_353 q_354 q_4 q_355 rfl rfl rfl (by decide +kernel) ⟨by decide, by decide⟩ rfl hl.1 (Nat.le_of_ble_eq_true rfl) d_KG_state_31 ⟨by decide, by decide⟩) (fun H locs hd => ?_)
    refine zcast hC hd (e_key hk) q_105 d_KG_state_34 ?_
    refine zgetN hC hd (e_key hk) rfl i_Key 3 (by decide) z_119 (Or.inl rfl) (v := .int (xi Z 1 k)) rfl d_KG_state_37 ?_
    refine lv_goto (tgt := 44) hx hb d_KG_state_40 (by decide) ?_
    exact zfi hC hd hr hlk d_KG_state_44 (by unfold x_state; rw [hcl]; (repeat (first | (rw [if_pos]; rotate_left; first | assumption | decide) | (rw [if_neg]; rotate_left; first | assumption | decide))) <;> (try rfl)) rfl
theorem c_KG_state (l : Launch) (G : Gt) (ad : Nat → Nat → Nat) (ow : Nat → Nat × Nat) (Z : Zt) (hX : XS Z) (k : Int32) : Met l y_KG_state w_KG_state ({ frames := 3, cells := 0, slots := 0, locals := 64 }) (zPc G ad ow Z [.ref (ad 0 0), .int k]) (Qd G ad ow Z (some (.int (x_state Z k)))) 0 0 (zA G) := by
  have h40 := hX.k40
  have hkl := hX.kl
  rcases x_isKey_cases Z k (by omega) with h0 | ⟨j, hj, rfl, h0⟩
  · exact c_KG_state_no l G ad ow Z hX  k  h0
  · exact c_KG_state_yes l G ad ow Z hX  j  (by omega) h0
set_option maxHeartbeats 4000000 in
theorem c_KG_asked_no (l : Launch) (G : Gt) (ad : Nat → Nat → Nat) (ow : Nat → Nat × Nat) (Z : Zt) (hX : XS Z) (hac : ∀ q, xn Z 4 q ≤ 8) (k : Int32) (i : Int32) (h0 : x_isFn Z k = 0) : Met l y_KG_asked w_KG_asked ({ frames := 4, cells := 0, slots := 0, locals := 85 }) (zPc G ad ow Z [.ref (ad 0 0), .int k, .int i]) (Qd G ad ow Z (some (.int (x_asked Z k i)))) 0 0 (zA G) := by
  refine zopen (cc := b_KG_asked) (maxL := 3) (ret := (some FieldType.int)) (by decide) rfl (Nat.le_of_ble_eq_true rfl) ?_
  intro p e s m below meth c ls hC hr hlk hnm hd hl
  have hC : Cx G p c m s _ "KeyGraph" b_KG_asked 3 := hC
  have hl : lv_has ls 3 [(0, .ref (ad 0 0)), (1, .int k), (2, .int i)] := hl
  have hx := hC.1
  have hb := hC.2.1
  refine lv_aload_n hx hb d_KG_asked_0 rfl (lv_at hl 0 rfl) ?_
  refine lv_iload_n hx hb d_KG_asked_1 rfl (lv_at hl 1 rfl) ?_
  refine zb_i (r := 0) hd (zrunV (n := 1) (rest := []) hC hd (e_kg hX.kg) rfl (c_KG_isFunction l G ad ow Z hX k 0 h0) q_344 q_346 qp_3 q_1 q_347 rfl rfl rfl (by decide +kernel) ⟨by decide, by decide⟩ rfl hl.1 (Nat.le_of_ble_eq_true rfl) d_KG_asked_2 ⟨by decide, by decide⟩) (fun H locs hd => ?_)
  refine lv_if_eq (tgt := 47) hx hb d_KG_asked_5 (by decide) (fun _ => ?_) (fun c => absurd c (by decide))
  refine lv_iconst (v := (-1)) hx hb d_KG_asked_47 (by decide) ?_
  refine lv_goto (tgt := 67) hx hb d_KG_asked_48 (by decide) ?_
  exact zfi hC hd hr hlk d_KG_asked_67 (by unfold x_asked; (repeat (first | (rw [if_pos]; rotate_left; first | assumption | decide) | (rw [if_neg]; rotate_left; first | assumption | decide))) <;> (try rfl)) rfl
set_option maxHeartbeats 4000000 in
theorem c_KG_asked_yes (l : Launch) (G : Gt) (ad : Nat → Nat → Nat) (ow : Nat → Nat × Nat) (Z : Zt) (hX : XS Z) (hac : ∀ q, xn Z 4 q ≤ 8) (k : Nat) (i : Int32) (hk : k < xn Z 0 1) (h0 : x_isFn Z (nI k) = 1) : Met l y_KG_asked w_KG_asked ({ frames := 4, cells := 0, slots := 0, locals := 85 }) (zPc G ad ow Z [.ref (ad 0 0), .int (nI k), .int i]) (Qd G ad ow Z (some (.int (x_asked Z (nI k) i)))) 0 0 (zA G) := by
  refine zopen (cc := b_KG_asked) (maxL := 3) (ret := (some FieldType.int)) (by decide) rfl (Nat.le_of_ble_eq_true rfl) ?_
  intro p e s m below meth c ls hC hr hlk hnm hd hl
  have hC : Cx G p c m s _ "KeyGraph" b_KG_asked 3 := hC
  have hl : lv_has ls 3 [(0, .ref (ad 0 0)), (1, .int (nI k)), (2, .int i)] := hl
  have hx := hC.1
  have hb := hC.2.1
  have h40 := hX.k40
  have hcl : (nI k).toNatClampNeg = k := nI_clamp (by omega)
  have h0n : ¬ x_isFn Z (nI k) = 0 := by rw [h0]; decide
  have h8 := hac k
  refine lv_aload_n hx hb d_KG_asked_0 rfl (lv_at hl 0 rfl) ?_
  refine lv_iload_n hx hb d_KG_asked_1 rfl (lv_at hl 1 rfl) ?_
  refine zb_i (r := 1) hd (zrunV (n := 1) (rest := []) hC hd (e_kg hX.kg) rfl (c_KG_isFunction l G ad ow Z hX (nI k) 1 h0) q_344 q_346 qp_3 q_1 q_347 rfl rfl rfl (by decide +kernel) ⟨by decide, by decide⟩ rfl hl.1 (Nat.le_of_ble_eq_true rfl) d_KG_asked_2 ⟨by decide, by decide⟩) (fun H locs hd => ?_)
  refine lv_if_eq (tgt := 47) hx hb d_KG_asked_5 (by decide) (fun c => absurd c (by decide)) (fun _ => ?_)
  refine lv_aload_n hx hb d_KG_asked_8 rfl (lv_at hl 0 rfl) ?_
  refine zget hC hd (e_kg hX.kg) rfl i_KG 0 (by decide) q_80 (Or.inl rfl) (v := .ref (ad 3 0)) rfl d_KG_asked_9 ?_
  refine lv_iload_n hx hb d_KG_asked_12 rfl (lv_at hl 1 rfl) ?_
  refine zb_a (r := (ad 1 k)) hd (zrunV (n := 1) (rest := []) hC hd (e_list hX.l0) rfl (c_get l G ad ow Z hX 0 k k hX.l0 (show k < xn Z 2 0 by rw [hX.kl]; exact hk) (hX.ke hk)) q_352 q_353 q_354 q_4 q_355 rfl rfl rfl (by decide +kernel) ⟨by decide, by decide⟩ rfl hl.1 (Nat.le_of_ble_eq_true rfl) d_KG_asked_13 ⟨by decide, by decide⟩) (fun H locs hd => ?_)
  refine zcast hC hd (e_key hk) q_105 d_KG_asked_16 ?_
  refine zgetN hC hd (e_key hk) rfl i_Key 3 (by decide) z_119 (Or.inl rfl) (v := .int (xi Z 1 k)) rfl d_KG_asked_19 ?_
  refine lv_if_eq (tgt := 47) hx hb d_KG_asked_22 (by decide) (fun c22 => ?_) (fun c22 => ?_)
  · refine lv_iconst (v := (-1)) hx hb d_KG_asked_47 (by decide) ?_
    refine lv_goto (tgt := 67) hx hb d_KG_asked_48 (by decide) ?_
    exact zfi hC hd hr hlk d_KG_asked_67 (by unfold x_asked; rw [hcl]; (repeat (first | (rw [if_pos]; rotate_left; first | assumption | decide) | (rw [if_neg]; rotate_left; first | assumption | decide))) <;> (try rfl)) rfl
  · refine lv_iload_n hx hb d_KG_asked_25 rfl (lv_at hl 2 rfl) ?_
    refine lv_if_lt (tgt := 47) hx hb d_KG_asked_26 (by decide) (fun c26 => ?_) (fun c26 => ?_)
    · refine lv_iconst (v := (-1)) hx hb d_KG_asked_47 (by decide) ?_
      refine lv_goto (tgt := 67) hx hb d_KG_asked_48 (by decide) ?_
      exact zfi hC hd hr hlk d_KG_asked_67 (by unfold x_asked; rw [hcl]; (repeat (first | (rw [if_pos]; rotate_left; first | assumption | decide) | (rw [if_neg]; rotate_left; first | assumption | decide))) <;> (try rfl)) rfl
    · obtain ⟨i1, hi1, rfl⟩ := nI_of c26
      have hci : (nI i1).toNatClampNeg = i1 := nI_clamp hi1
      refine lv_iload_n hx hb d_KG_asked_29 rfl (lv_at hl 2 rfl) ?_
      refine lv_aload_n hx hb d_KG_asked_30 rfl (lv_at hl 0 rfl) ?_
      refine zget hC hd (e_kg hX.kg) rfl i_KG 0 (by decide) q_80 (Or.inl rfl) (v := .ref (ad 3 0)) rfl d_KG_asked_31 ?_
      refine lv_iload_n hx hb d_KG_asked_34 rfl (lv_at hl 1 rfl) ?_
      refine zb_a (r := (ad 1 k)) hd (zrunV (n := 1) (rest := [.int (nI i1)]) hC hd (e_list hX.l0) rfl (c_get l G ad ow Z hX 0 k k hX.l0 (show k < xn Z 2 0 by rw [hX.kl]; exact hk) (hX.ke hk)) q_352 q_353 q_354 q_4 q_355 rfl rfl rfl (by decide +kernel) ⟨by decide, by decide⟩ rfl hl.1 (Nat.le_of_ble_eq_true rfl) d_KG_asked_35 ⟨by decide, by decide⟩) (fun H locs hd => ?_)
      refine zcast hC hd (e_key hk) q_105 d_KG_asked_38 ?_
      refine zgetN hC hd (e_key hk) rfl i_Key 13 (by decide) z_132 (Or.inl rfl) (v := .int (nI (xn Z 4 k))) rfl d_KG_asked_41 ?_
      refine zc_lt (x := i1) (y := xn Z 4 k) (tgt := 51) (by omega) (by omega) hx hb d_KG_asked_44 (by decide) (fun c44 => ?_) (fun c44 => ?_)
      · have c44' := Nat.not_le.mpr c44
        have c44b :  nI i1 < nI (xn Z 4 k) := nI_lt c44 (by omega)
        refine lv_aload_n hx hb d_KG_asked_51 rfl (lv_at hl 0 rfl) ?_
        refine zget hC hd (e_kg hX.kg) rfl i_KG 0 (by decide) q_80 (Or.inl rfl) (v := .ref (ad 3 0)) rfl d_KG_asked_52 ?_
        refine lv_iload_n hx hb d_KG_asked_55 rfl (lv_at hl 1 rfl) ?_
        refine zb_a (r := (ad 1 k)) hd (zrunV (n := 1) (rest := []) hC hd (e_list hX.l0) rfl (c_get l G ad ow Z hX 0 k k hX.l0 (show k < xn Z 2 0 by rw [hX.kl]; exact hk) (hX.ke hk)) q_352 q_353 q_354 q_4 q_355 rfl rfl rfl (by decide +kernel) ⟨by decide, by decide⟩ rfl hl.1 (Nat.le_of_ble_eq_true rfl) d_KG_asked_56 ⟨by decide, by decide⟩) (fun H locs hd => ?_)
        refine zcast hC hd (e_key hk) q_105 d_KG_asked_59 ?_
        refine zgetN hC hd (e_key hk) rfl i_Key 11 (by decide) z_129 (Or.inl rfl) (v := .ref (ad 5 (xn Z 7 k))) rfl d_KG_asked_62 ?_
        refine lv_iload_n hx hb d_KG_asked_65 rfl (lv_at hl 2 rfl) ?_
        refine ziaN (k := i1) (f := fun j => xc Z 5 (xn Z 7 k) j) hC hd (e_arr (hX.ar (hX.2.2.2.2.2 _ hk).1)) (by omega) (by decide) d_KG_asked_66 ?_
        exact zfi hC hd hr hlk d_KG_asked_67 (by unfold x_asked; rw [hcl, hci]; (repeat (first | (rw [if_pos]; rotate_left; first | assumption | decide) | (rw [if_neg]; rotate_left; first | assumption | decide))) <;> (try rfl)) rfl
      · have c44' := Nat.not_lt.mpr c44
        have c44b : ¬ nI i1 < nI (xn Z 4 k) := fun q => absurd ((nI_ltI (by omega) (by omega)).mp q) (by omega)
        refine lv_iconst (v := (-1)) hx hb d_KG_asked_47 (by decide) ?_
        refine lv_goto (tgt := 67) hx hb d_KG_asked_48 (by decide) ?_
        exact zfi hC hd hr hlk d_KG_asked_67 (by unfold x_asked; rw [hcl, hci]; (repeat (first | (rw [if_pos]; rotate_left; first | assumption | decide) | (rw [if_neg]; rotate_left; first | assumption | decide))) <;> (try rfl)) rfl
theorem c_KG_asked (l : Launch) (G : Gt) (ad : Nat → Nat → Nat) (ow : Nat → Nat × Nat) (Z : Zt) (hX : XS Z) (hac : ∀ q, xn Z 4 q ≤ 8) (k : Int32) (i : Int32) : Met l y_KG_asked w_KG_asked ({ frames := 4, cells := 0, slots := 0, locals := 85 }) (zPc G ad ow Z [.ref (ad 0 0), .int k, .int i]) (Qd G ad ow Z (some (.int (x_asked Z k i)))) 0 0 (zA G) := by
  rcases x_isFn_cases Z hX k with h0 | ⟨j, hj, rfl, h0, -⟩
  · exact c_KG_asked_no l G ad ow Z hX hac k i h0
  · exact c_KG_asked_yes l G ad ow Z hX hac j i hj h0
set_option maxHeartbeats 4000000 in
theorem c_KG_drop_no (l : Launch) (G : Gt) (ad : Nat → Nat → Nat) (ow : Nat → Nat × Nat) (Z : Zt) (hX : XS Z) (hcp : CancelPre Z) (k : Int32) (h0 : x_isFn Z k = 0) : Met l y_KG_drop w_KG_drop ({ frames := 4, cells := 0, slots := 0, locals := 85 }) (zPc G ad ow Z [.ref (ad 0 0), .int k]) (Qd G ad ow ((x_drop Z k).1) (some (.int ((x_drop Z k).2)))) 0 0 (zA G) := by
  refine zopen (cc := b_KG_drop) (maxL := 2) (ret := (some FieldType.boolean)) (by decide) rfl (Nat.le_of_ble_eq_true rfl) ?_
  intro p e s m below meth c ls hC hr hlk hnm hd hl
  have hC : Cx G p c m s _ "KeyGraph" b_KG_drop 2 := hC
  have hl : lv_has ls 2 [(0, .ref (ad 0 0)), (1, .int k)] := hl
  have hx := hC.1
  have hb := hC.2.1
  refine lv_aload_n hx hb d_KG_drop_0 rfl (lv_at hl 0 rfl) ?_
  refine lv_iload_n hx hb d_KG_drop_1 rfl (lv_at hl 1 rfl) ?_
  refine zb_i (r := 0) hd (zrunV (n := 1) (rest := []) hC hd (e_kg hX.kg) rfl (c_KG_isFunction l G ad ow Z hX k 0 h0) q_344 q_346 qp_3 q_1 q_347 rfl rfl rfl (by decide +kernel) ⟨by decide, by decide⟩ rfl hl.1 (Nat.le_of_ble_eq_true rfl) d_KG_drop_2 ⟨by decide, by decide⟩) (fun H locs hd => ?_)
  refine lv_if_eq (tgt := 25) hx hb d_KG_drop_5 (by decide) (fun _ => ?_) (fun c => absurd c (by decide))
  refine lv_iconst (v := 0) hx hb d_KG_drop_25 (by decide) ?_
  exact zfz hC hd hr hlk d_KG_drop_26 (by decide) (by unfold x_drop; (repeat (first | (rw [if_pos]; rotate_left; first | assumption | decide) | (rw [if_neg]; rotate_left; first | assumption | decide))) <;> (try rfl)) (by unfold x_drop; (repeat (first | (rw [if_pos]; rotate_left; first | assumption | decide) | (rw [if_neg]; rotate_left; first | assumption | decide))) <;> (try rfl))
set_option maxHeartbeats 4000000 in
theorem c_KG_drop_yes (l : Launch) (G : Gt) (ad : Nat → Nat → Nat) (ow : Nat → Nat × Nat) (Z : Zt) (hX : XS Z) (hcp : CancelPre Z) (k : Nat) (hk : k < xn Z 0 1) (h0 : x_isFn Z (nI k) = 1) : Met l y_KG_drop w_KG_drop ({ frames := 4, cells := 0, slots := 0, locals := 85 }) (zPc G ad ow Z [.ref (ad 0 0), .int (nI k)]) (Qd G ad ow ((x_drop Z (nI k)).1) (some (.int ((x_drop Z (nI k)).2)))) 0 0 (zA G) := by
  refine zopen (cc := b_KG_drop) (maxL := 2) (ret := (some FieldType.boolean)) (by decide) rfl (Nat.le_of_ble_eq_true rfl) ?_
  intro p e s m below meth c ls hC hr hlk hnm hd hl
  have hC : Cx G p c m s _ "KeyGraph" b_KG_drop 2 := hC
  have hl : lv_has ls 2 [(0, .ref (ad 0 0)), (1, .int (nI k))] := hl
  have hx := hC.1
  have hb := hC.2.1
  have h40 := hX.k40
  have hcl : (nI k).toNatClampNeg = k := nI_clamp (by omega)
  have h0n : ¬ x_isFn Z (nI k) = 0 := by rw [h0]; decide
  refine lv_aload_n hx hb d_KG_drop_0 rfl (lv_at hl 0 rfl) ?_
  refine lv_iload_n hx hb d_KG_drop_1 rfl (lv_at hl 1 rfl) ?_
  refine zb_i (r := 1) hd (zrunV (n := 1) (rest := []) hC hd (e_kg hX.kg) rfl (c_KG_isFunction l G ad ow Z hX (nI k) 1 h0) q_344 q_346 qp_3 q_1 q_347 rfl rfl rfl (by decide +kernel) ⟨by decide, by decide⟩ rfl hl.1 (Nat.le_of_ble_eq_true rfl) d_KG_drop_2 ⟨by decide, by decide⟩) (fun H locs hd => ?_)
  refine lv_if_eq (tgt := 25) hx hb d_KG_drop_5 (by decide) (fun c => absurd c (by decide)) (fun _ => ?_)
  refine lv_aload_n hx hb d_KG_drop_8 rfl (lv_at hl 0 rfl) ?_
  refine zget hC hd (e_kg hX.kg) rfl i_KG 0 (by decide) q_80 (Or.inl rfl) (v := .ref (ad 3 0)) rfl d_KG_drop_9 ?_
  refine lv_iload_n hx hb d_KG_drop_12 rfl (lv_at hl 1 rfl) ?_
  refine zb_a (r := (ad 1 k)) hd (zrunV (n := 1) (rest := []) hC hd (e_list hX.l0) rfl (c_get l G ad ow Z hX 0 k k hX.l0 (show k < xn Z 2 0 by rw [hX.kl]; exact hk) (hX.ke hk)) q_352 q_353 q_354 q_4 q_355 rfl rfl rfl (by decide +kernel) ⟨by decide, by decide⟩ rfl hl.1 (Nat.le_of_ble_eq_true rfl) d_KG_drop_13 ⟨by decide, by decide⟩) (fun H locs hd => ?_)
  refine zcast hC hd (e_key hk) q_105 d_KG_drop_16 ?_
  refine zgetN hC hd (e_key hk) rfl i_Key 3 (by decide) z_119 (Or.inl rfl) (v := .int (xi Z 1 k)) rfl d_KG_drop_19 ?_
  refine lv_if_ne (tgt := 27) hx hb d_KG_drop_22 (by decide) (fun c22 => ?_) (fun c22 => ?_)
  · refine lv_aload_n hx hb d_KG_drop_27 rfl (lv_at hl 0 rfl) ?_
    refine zb_i (r := (nI (x_cancelN Z))) hd (zrunV (n := 0) (rest := []) hC hd (e_kg hX.kg) rfl (c_KG_cancel l G ad ow Z hX hcp) q_390 q_391 q_392 q_1 q_393 rfl rfl rfl (by decide +kernel) ⟨by decide, by decide⟩ rfl hl.1 (Nat.le_of_ble_eq_true rfl) d_KG_drop_28 ⟨by decide, by decide⟩) (fun H locs hd => ?_)
    have hXc := x_can_XS hX
    refine lv_pop hx hb d_KG_drop_31 rfl ?_
    refine lv_aload_n hx hb d_KG_drop_32 rfl (lv_at hl 0 rfl) ?_
    refine zget hC hd (e_kg hXc.kg) rfl i_KG 0 (by decide) q_80 (Or.inl rfl) (v := .ref (ad 3 0)) rfl d_KG_drop_33 ?_
    refine lv_iload_n hx hb d_KG_drop_36 rfl (lv_at hl 1 rfl) ?_
    refine zb_a (r := (ad 1 k)) hd (zrunV (n := 1) (rest := []) hC hd (e_list hXc.l0) rfl (c_get l G ad ow (x_cancel Z) hXc 0 k k hXc.l0 (show k < xn (x_cancel Z) 2 0 by rw [x_can_xn _ _ _ (by decide), hX.kl]; exact hk) (by rw [x_can_xc]; exact hX.ke hk)) q_352 q_353 q_354 q_4 q_355 rfl rfl rfl (by decide +kernel) ⟨by decide, by decide⟩ rfl hl.1 (Nat.le_of_ble_eq_true rfl) d_KG_drop_37 ⟨by decide, by decide⟩) (fun H locs hd => ?_)
    refine zcast hC hd (e_key (show k < xn (x_cancel Z) 0 1 by rw [x_can_xn _ _ _ (by decide)]; exact hk)) q_105 d_KG_drop_40 ?_
    refine lv_iconst (v := 0) hx hb d_KG_drop_43 (by decide) ?_
    refine zputN (Z' := (si (x_cancel Z) 1 k 0)) (v := .int 0) hC hd (e_key (show k < xn (x_cancel Z) 0 1 by rw [x_can_xn _ _ _ (by decide)]; exact hk)) rfl i_Key t_Key t_Key_ok n_Key 3 (by decide) z_119 rfl rfl rfl rfl (Nat.le_of_ble_eq_true rfl) (u_st (show k < xn (x_cancel Z) 0 1 by rw [x_can_xn _ _ _ (by decide)]; exact hk)) d_KG_drop_44 (fun H locs hd => ?_)
    refine lv_iconst (v := 1) hx hb d_KG_drop_47 (by decide) ?_
    exact zfz hC hd hr hlk d_KG_drop_48 (by decide) (by unfold x_drop; rw [hcl]; (repeat (first | (rw [if_pos]; rotate_left; first | assumption | decide) | (rw [if_neg]; rotate_left; first | assumption | decide))) <;> (try rfl)) (by unfold x_drop; rw [hcl]; (repeat (first | (rw [if_pos]; rotate_left; first | assumption | decide) | (rw [if_neg]; rotate_left; first | assumption | decide))) <;> (try rfl))
  · refine lv_iconst (v := 0) hx hb d_KG_drop_25 (by decide) ?_
    exact zfz hC hd hr hlk d_KG_drop_26 (by decide) (by unfold x_drop; rw [hcl]; (repeat (first | (rw [if_pos]; rotate_left; first | assumption | decide) | (rw [if_neg]; rotate_left; first | assumption | decide))) <;> (try rfl)) (by unfold x_drop; rw [hcl]; (repeat (first | (rw [if_pos]; rotate_left; first | assumption | decide) | (rw [if_neg]; rotate_left; first | assumption | decide))) <;> (try rfl))
theorem c_KG_drop (l : Launch) (G : Gt) (ad : Nat → Nat → Nat) (ow : Nat → Nat × Nat) (Z : Zt) (hX : XS Z) (hcp : CancelPre Z) (k : Int32) : Met l y_KG_drop w_KG_drop ({ frames := 4, cells := 0, slots := 0, locals := 85 }) (zPc G ad ow Z [.ref (ad 0 0), .int k]) (Qd G ad ow ((x_drop Z k).1) (some (.int ((x_drop Z k).2)))) 0 0 (zA G) := by
  rcases x_isFn_cases Z hX k with h0 | ⟨j, hj, rfl, h0, -⟩
  · exact c_KG_drop_no l G ad ow Z hX hcp k  h0
  · exact c_KG_drop_yes l G ad ow Z hX hcp j  hj h0
