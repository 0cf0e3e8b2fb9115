def LB (Z : Zt) : Prop := ∀ i, xi Z 15 i = 0 ∨ xi Z 15 i = 1
set_option maxHeartbeats 4000000 in
theorem c_KG_isLeading (l : Launch) (G : Gt) (ad : Nat → Nat → Nat) (ow : Nat → Nat × Nat) (Z : Zt) (hX : XS Z) (hLB : LB Z) (k : Nat) (hk : k < xn Z 0 1) : Met l y_KG_isLeading w_KG_isLeading ({ frames := 0, cells := 0, slots := 0, locals := 0 }) (zPc G ad ow Z [.ref (ad 0 0), .ref (ad 1 k)]) (Qd G ad ow Z (some (.int (xi Z 15 k)))) 0 0 (zA G) := by
  refine zopen (cc := b_KG_isLeading) (maxL := 2) (ret := (some FieldType.boolean)) (by decide) rfl (Nat.le_of_ble_eq_true rfl) ?_
  intro p e s m below meth c ls hC hr hlk hnm hd hl
  have hC : Cx G p c m s _ "KeyGraph" b_KG_isLeading 2 := hC
  have hl : lv_has ls 2 [(0, .ref (ad 0 0)), (1, .ref (ad 1 k))] := hl
  have hx := hC.1
  have hb := hC.2.1
  refine lv_aload_n hx hb d_KG_isLeading_0 rfl (lv_at hl 0 rfl) ?_
  refine zget hC hd (e_kg hX.kg) rfl i_KG 4 (by decide) q_84 (Or.inl rfl) (v := .ref (ad 9 0)) rfl d_KG_isLeading_1 ?_
  refine lv_aload_n hx hb d_KG_isLeading_4 rfl (lv_at hl 1 rfl) ?_
  refine zgetN hC hd (e_key hk) rfl i_Key 0 (by decide) z_114 (Or.inl rfl) (v := .int (nI k)) rfl d_KG_isLeading_5 ?_
  refine zzaI (k := k) (f := xi Z 15) hC hd (e_leads hX.ld) (by have := hX.k40; omega) (by decide) d_KG_isLeading_8 ?_
  exact zfz hC hd hr hlk d_KG_isLeading_9 (hLB k) rfl rfl
/-- whether key k asks one that leads, from place i on, n places -/
def x_one (Z : Zt) (k : Nat) : Nat → Nat → Int32 → Int32
  | 0, _, g => g
  | n + 1, i, g => if g = 0 then x_one Z k n (i + 1) (xi Z 15 (xc Z 4 (k + 2) i - 1)) else g
theorem x_one_b {Z : Zt} (hLB : LB Z) (k : Nat) : ∀ (n i : Nat) (g : Int32), (g = 0 ∨ g = 1) → x_one Z k n i g = 0 ∨ x_one Z k n i g = 1
  | 0, _, _, h => h
  | n + 1, i, g, h => by
    unfold x_one
    split
    · exact x_one_b hLB k n (i + 1) _ (hLB _)
    · exact h
set_option maxHeartbeats 4000000 in
theorem lp_KG_asksOne {p : Program} {l : Launch} {e : Env} {s : State} {m : MethodId} {args : Array Value} {below : List Frame} {meth : Method} {c : Code} {Q : State → Prop} {G : Gt} {ad : Nat → Nat → Nat} {ow : Nat → Nat × Nat} {Z : Zt} (hX : XS Z) (hLB : LB Z) (k : Nat) (hk : k < xn Z 0 1) (hC : Cx G p c m s args "KeyGraph" b_KG_asksOne 4) : ∀ (n i : Nat) (g : Int32) (ls : Array Slot) (H : Heap) (locs : List Loc), i + n = xn Z 2 (k + 2) → (g = 0 ∨ g = 1) → Dy G ad ow Z s H locs → lv_has ls 4 [(2, .int g), (3, .int (nI (i))), (0, .ref (ad 0 0)), (1, .ref (ad 1 k))] → (∀ (ls : Array Slot) (H : Heap) (locs : List Loc) (j : Nat), Dy G ad ow Z s H locs → lv_has ls 4 [(2, .int (x_one Z k n i g)), (3, .int (nI (j))), (0, .ref (ad 0 0)), (1, .ref (ad 1 k))] → W p l e ({ frames := 3, cells := 0, slots := 0, locals := 64 } : Room) s m args below meth c H locs 0 0 Q (F0 m 41 ls [])) → W p l e ({ frames := 3, cells := 0, slots := 0, locals := 64 } : Room) s m args below meth c H locs 0 0 Q (F0 m 4 ls []) := by
  have hx := hC.1
  have hb := hC.2.1
  intro n
  induction n with
  | zero =>
    intro i g ls H locs hi hg hd hl kk
    have h8 := (hX.2.2.2.1 k hk).1
    refine lv_iload_n hx hb d_KG_asksOne_4 rfl (lv_at hl 1 rfl) ?_
    refine lv_aload_n hx hb d_KG_asksOne_5 rfl (lv_at hl 3 rfl) ?_
    refine zgetN hC hd (e_key hk) rfl i_Key 2 (by decide) z_118 (Or.inl rfl) (v := .ref (ad 3 (k + 2))) rfl d_KG_asksOne_6 ?_
    refine zb_i (r := (nI (xn Z 2 (k + 2)))) hd (zrunV (n := 0) (rest := [.int (nI i)]) hC hd (e_list (hX.l hk)) rfl (c_AL_size l G ad ow Z (k + 2) (hX.l hk)) q_101 q_102 q_103 q_4 q_104 rfl rfl rfl (by decide +kernel) ⟨by decide, by decide⟩ rfl hl.1 (Nat.le_of_ble_eq_true rfl) d_KG_asksOne_9 ⟨by decide, by decide⟩) (fun H locs hd => ?_)
    refine zc_ge (x := i) (y := xn Z 2 (k + 2)) (tgt := 41) (by omega) (by omega) hx hb d_KG_asksOne_12 (by decide) (fun c12 => ?_) (fun c12 => absurd hi (by omega))
    exact kk ls H locs i hd hl
  | succ n ih =>
    intro i g ls H locs hi hg hd hl kk
    have h8 := (hX.2.2.2.1 k hk).1
    have he := (hX.2.2.2.1 k hk).2 i (by omega)
    obtain ⟨q, hq⟩ : ∃ q, xc Z 4 (k + 2) i = q + 1 := ⟨xc Z 4 (k + 2) i - 1, by omega⟩
    have hq1 : xc Z 4 (k + 2) i - 1 = q := by omega
    have hqn : q < xn Z 0 1 := by omega
    refine lv_iload_n hx hb d_KG_asksOne_4 rfl (lv_at hl 1 rfl) ?_
    refine lv_aload_n hx hb d_KG_asksOne_5 rfl (lv_at hl 3 rfl) ?_
    refine zgetN hC hd (e_key hk) rfl i_Key 2 (by decide) z_118 (Or.inl rfl) (v := .ref (ad 3 (k + 2))) rfl d_KG_asksOne_6 ?_
    refine zb_i (r := (nI (xn Z 2 (k + 2)))) hd (zrunV (n := 0) (rest := [.int (nI i)]) hC hd (e_list (hX.l hk)) rfl (c_AL_size l G ad ow Z (k + 2) (hX.l hk)) q_101 q_102 q_103 q_4 q_104 rfl rfl rfl (by decide +kernel) ⟨by decide, by decide⟩ rfl hl.1 (Nat.le_of_ble_eq_true rfl) d_KG_asksOne_9 ⟨by decide, by decide⟩) (fun H locs hd => ?_)
    refine zc_ge (x := i) (y := xn Z 2 (k + 2)) (tgt := 41) (by omega) (by omega) hx hb d_KG_asksOne_12 (by decide) (fun c12 => absurd hi (by omega)) (fun c12 => ?_)
    refine lv_iload_n hx hb d_KG_asksOne_15 rfl (lv_at hl 0 rfl) ?_
    refine lv_if_ne (tgt := 41) hx hb d_KG_asksOne_16 (by decide) (fun c16 => ?_) (fun c16 => ?_)
    · rw [x_one, if_neg c16] at kk
      exact kk ls H locs i hd hl
    · refine lv_aload_n hx hb d_KG_asksOne_19 rfl (lv_at hl 2 rfl) ?_
      refine lv_aload_n hx hb d_KG_asksOne_20 rfl (lv_at hl 3 rfl) ?_
      refine zgetN hC hd (e_key hk) rfl i_Key 2 (by decide) z_118 (Or.inl rfl) (v := .ref (ad 3 (k + 2))) rfl d_KG_asksOne_21 ?_
      refine lv_iload_n hx hb d_KG_asksOne_24 rfl (lv_at hl 1 rfl) ?_
      refine zb_a (r := (ad 1 q)) hd (zrunV (n := 1) (rest := [.ref (ad 0 0)]) hC hd (e_list (hX.l hk)) rfl (c_get l G ad ow Z hX (k + 2) i q (hX.l hk) (show i < xn Z 2 (k + 2) by omega) hq) q_352 q_353 q_354 q_4 q_355 rfl rfl rfl (by decide +kernel) ⟨by decide, by decide⟩ rfl hl.1 (Nat.le_of_ble_eq_true rfl) d_KG_asksOne_25 ⟨by decide, by decide⟩) (fun H locs hd => ?_)
      refine zcast hC hd (e_key hqn) q_105 d_KG_asksOne_28 ?_
      refine zb_i (r := (xi Z 15 q)) hd (zrunV (n := 1) (rest := []) hC hd (e_kg hX.kg) rfl (c_KG_isLeading l G ad ow Z hX hLB q hqn) q_378 q_380 qp_7 q_1 q_381 rfl rfl rfl (by decide +kernel) ⟨by decide, by decide⟩ rfl hl.1 (Nat.le_of_ble_eq_true rfl) d_KG_asksOne_31 ⟨by decide, by decide⟩) (fun H locs hd => ?_)
      refine lv_istore_n (lv' := [(2, .int (xi Z 15 q)), (3, .int (nI i)), (0, .ref (ad 0 0)), (1, .ref (ad 1 k))]) hx hb d_KG_asksOne_34 rfl hl (by decide) rfl (fun ls hl => ?_)
      refine lv_iinc (v := (nI (i + 1))) (lv' := [(3, .int (nI (i + 1))), (2, .int (xi Z 15 q)), (0, .ref (ad 0 0)), (1, .ref (ad 1 k))]) hx hb d_KG_asksOne_35 hl (k := 1) rfl (by rw [show Int32.ofInt 1 = nI 1 from by decide]; exact nI_add _ _) (by decide) rfl (fun ls hl => ?_)
      refine lv_goto (tgt := 4) hx hb d_KG_asksOne_38 (by decide) ?_
      rw [x_one, if_pos c16, hq1] at kk
      exact ih (i + 1) _ ls H locs (by omega) (hLB q) hd (lv_sub hl [1, 0, 2, 3] rfl) kk
set_option maxHeartbeats 4000000 in
theorem c_KG_asksOne (l : Launch) (G : Gt) (ad : Nat → Nat → Nat) (ow : Nat → Nat × Nat) (Z : Zt) (hX : XS Z) (hLB : LB Z) (k : Nat) (hk : k < xn Z 0 1) : Met l y_KG_asksOne w_KG_asksOne ({ frames := 3, cells := 0, slots := 0, locals := 64 }) (zPc G ad ow Z [.ref (ad 0 0), .ref (ad 1 k)]) (Qd G ad ow Z (some (.int (x_one Z k (xn Z 2 (k + 2)) 0 0)))) 0 0 (zA G) := by
  refine zopen (cc := b_KG_asksOne) (maxL := 4) (ret := (some FieldType.boolean)) (by decide) rfl (Nat.le_of_ble_eq_true rfl) ?_
  intro p e s m below meth c ls hC hr hlk hnm hd hl
  have hC : Cx G p c m s _ "KeyGraph" b_KG_asksOne 4 := hC
  have hl : lv_has ls 4 [(0, .ref (ad 0 0)), (1, .ref (ad 1 k))] := hl
  have hx := hC.1
  have hb := hC.2.1
  refine lv_iconst (v := 0) hx hb d_KG_asksOne_0 (by decide) ?_
  refine lv_istore_n (lv' := [(2, .int 0), (0, .ref (ad 0 0)), (1, .ref (ad 1 k))]) hx hb d_KG_asksOne_1 rfl hl (by decide) rfl (fun ls hl => ?_)
  refine lv_iconst (v := 0) hx hb d_KG_asksOne_2 (by decide) ?_
  refine lv_istore_n (lv' := [(3, .int 0), (2, .int 0), (0, .ref (ad 0 0)), (1, .ref (ad 1 k))]) hx hb d_KG_asksOne_3 rfl hl (by decide) rfl (fun ls hl => ?_)
  refine lp_KG_asksOne hX hLB k hk hC (xn Z 2 (k + 2)) 0 0 ls _ _ (by omega) (Or.inl rfl) hd (lv_sub hl [1, 0, 2, 3] rfl) (fun ls H locs i hd hl => ?_)
  refine lv_iload_n hx hb d_KG_asksOne_41 rfl (lv_at hl 0 rfl) ?_
  exact zfz hC hd hr hlk d_KG_asksOne_42 (x_one_b hLB k _ _ _ (Or.inl rfl)) rfl rfl
def x_ld0 (a : Nat) : Zt → Nat → Nat → Zt
  | Z, _, 0 => Z
  | Z, i, n + 1 => x_ld0 a (si Z 15 i (if i = a then 1 else 0)) (i + 1) n
def x_ldK : Zt → Int32 → Nat → Nat → Zt × Int32
  | Z, g, _, 0 => (Z, g)
  | Z, g, k, n + 1 => if xi Z 15 k = 0 then (if x_one Z k (xn Z 2 (k + 2)) 0 0 = 0 then x_ldK Z g (k + 1) n else x_ldK (si Z 15 k 1) 1 (k + 1) n) else x_ldK Z g (k + 1) n
def x_ldW : Nat → Zt → Int32 → Zt → Prop
  | 0, _, _, _ => False
  | n + 1, Z, g, Z' => if g = 0 then Z' = Z else x_ldW n (x_ldK Z 0 0 (xn Z 0 1)).1 (x_ldK Z 0 0 (xn Z 0 1)).2 Z'
/-- all but the leads is the same -/
def XLD (Z Z' : Zt) : Prop := (∀ t i, t ≠ 15 → xi Z' t i = xi Z t i) ∧ Z'.2 = Z.2 ∧ (LB Z → LB Z')
theorem XLD.refl (Z : Zt) : XLD Z Z := ⟨fun _ _ _ => rfl, rfl, id⟩
theorem XLD.trans {a b c : Zt} (h1 : XLD a b) (h2 : XLD b c) : XLD a c := ⟨fun t i h => (h2.1 t i h).trans (h1.1 t i h), h2.2.1.trans h1.2.1, fun h => h2.2.2 (h1.2.2 h)⟩
theorem XLD.set (Z : Zt) (i : Nat) (v : Int32) (hv : v = 0 ∨ v = 1) : XLD Z (si Z 15 i v) := ⟨fun t j h => by rw [xi_si, if_neg (fun q => h q.1)], rfl, fun h j => by rw [xi_si]; split; exact hv; exact h j⟩
theorem XLD.gn {Z Z' : Zt} (h : XLD Z Z') (t i : Nat) : xn Z' t i = xn Z t i := by unfold xn; rw [h.2.1]
theorem XLD.gl {Z Z' : Zt} (h : XLD Z Z') (t i : Nat) : xl Z' t i = xl Z t i := by unfold xl; rw [h.2.1]
theorem XLD.gc {Z Z' : Zt} (h : XLD Z Z') (c t i : Nat) : xc Z' c t i = xc Z c t i := by unfold xc; rw [h.2.1]
theorem XLD.toXS {Z Z' : Zt} (h : XLD Z Z') (hm : XS Z) : XS Z' := by
  unfold XS at hm ⊢
  simp only [h.gn, h.gc]
  exact hm
theorem ifb {c : Prop} [Decidable c] : (if c then (1 : Int32) else 0) = 0 ∨ (if c then (1 : Int32) else 0) = 1 := by split <;> decide
theorem x_ld0_LD (a : Nat) : ∀ (n : Nat) (Z : Zt) (i : Nat), XLD Z (x_ld0 a Z i n)
  | 0, Z, _ => XLD.refl Z
  | n + 1, Z, i => (XLD.set Z i _ ifb).trans (x_ld0_LD a n _ (i + 1))
theorem x_ldK_LD : ∀ (n : Nat) (Z : Zt) (g : Int32) (k : Nat), XLD Z (x_ldK Z g k n).1
  | 0, Z, _, _ => XLD.refl Z
  | n + 1, Z, g, k => by
    unfold x_ldK
    split
    · split
      · exact x_ldK_LD n Z g (k + 1)
      · exact (XLD.set Z k 1 (Or.inr rfl)).trans (x_ldK_LD n _ 1 (k + 1))
    · exact x_ldK_LD n Z g (k + 1)
theorem x_ldW_LD : ∀ (n : Nat) (Z : Zt) (g : Int32) (Z' : Zt), x_ldW n Z g Z' → XLD Z Z'
  | 0, _, _, _, h => h.elim
  | n + 1, Z, g, Z', h => by
    unfold x_ldW at h
    split at h
    · rw [h]; exact XLD.refl Z
    · exact (x_ldK_LD _ Z 0 0).trans (x_ldW_LD n _ _ Z' h)
set_option maxHeartbeats 4000000 in
theorem l1_KG_leadTo {p : Program} {l : Launch} {e : Env} {s : State} {m : MethodId} {args : Array Value} {below : List Frame} {meth : Method} {c : Code} {Q : State → Prop} {G : Gt} {ad : Nat → Nat → Nat} {ow : Nat → Nat × Nat} (a : Nat) (hC : Cx G p c m s args "KeyGraph" b_KG_leadTo 4) : ∀ (n i : Nat) (Z : Zt) (ls : Array Slot) (H : Heap) (locs : List Loc), i + n = 40 → XS Z → a < xn Z 0 1 → Dy G ad ow Z s H locs → lv_has ls 4 [(2, .int (nI i)), (0, .ref (ad 0 0)), (1, .ref (ad 1 a))] → (∀ (ls : Array Slot) (H : Heap) (locs : List Loc), Dy G ad ow (x_ld0 a Z i n) s H locs → lv_has ls 4 [(2, .int (nI 40)), (0, .ref (ad 0 0)), (1, .ref (ad 1 a))] → W p l e ({ frames := 4, cells := 0, slots := 0, locals := 87 } : Room) s m args below meth c H locs 0 0 Q (F0 m 33 ls [])) → W p l e ({ frames := 4, cells := 0, slots := 0, locals := 87 } : Room) s m args below meth c H locs 0 0 Q (F0 m 2 ls []) := by
  have hx := hC.1
  have hb := hC.2.1
  intro n
  induction n with
  | zero =>
    intro i Z ls H locs hi hX ha hd hl kk
    refine lv_iload_n hx hb d_KG_leadTo_2 rfl (lv_at hl 0 rfl) ?_
    refine lv_bipush (v := 40) hx hb d_KG_leadTo_3 (by decide) ?_
    refine zc_ge (x := i) (y := 40) (tgt := 33) (by omega) (by omega) hx hb d_KG_leadTo_5 (by decide) (fun c5 => ?_) (fun c5 => absurd hi (by omega))
    obtain rfl : i = 40 := by omega
    exact kk ls H locs hd hl
  | succ n ih =>
    intro i Z ls H locs hi hX ha hd hl kk
    have h40 := hX.k40
    refine lv_iload_n hx hb d_KG_leadTo_2 rfl (lv_at hl 0 rfl) ?_
    refine lv_bipush (v := 40) hx hb d_KG_leadTo_3 (by decide) ?_
    refine zc_ge (x := i) (y := 40) (tgt := 33) (by omega) (by omega) hx hb d_KG_leadTo_5 (by decide) (fun c5 => absurd hi (by omega)) (fun c5 => ?_)
    refine lv_aload_n hx hb d_KG_leadTo_8 rfl (lv_at hl 1 rfl) ?_
    refine zget hC hd (e_kg hX.kg) rfl i_KG 4 (by decide) q_84 (Or.inl rfl) (v := .ref (ad 9 0)) rfl d_KG_leadTo_9 ?_
    refine lv_iload_n hx hb d_KG_leadTo_12 rfl (lv_at hl 0 rfl) ?_
    refine lv_iload_n hx hb d_KG_leadTo_13 rfl (lv_at hl 0 rfl) ?_
    refine lv_aload_n hx hb d_KG_leadTo_14 rfl (lv_at hl 2 rfl) ?_
    refine zgetN hC hd (e_key ha) rfl i_Key 0 (by decide) z_114 (Or.inl rfl) (v := .int (nI a)) rfl d_KG_leadTo_15 ?_
    refine zc_ne (x := i) (y := a) (tgt := 25) (by omega) (by omega) hx hb d_KG_leadTo_18 (by decide) (fun c18 => ?_) (fun c18 => ?_)
    · refine lv_iconst (v := 0) hx hb d_KG_leadTo_25 (by decide) ?_
      refine zzaS (y := 0) (k := i) (Z' := (si Z 15 i 0)) hC hd (by decide) (e_leads hX.ld) (by omega) (by decide) (u_leads hX.ld) d_KG_leadTo_26 (fun H locs hd => ?_)
      refine lv_iinc (v := (nI (i + 1))) (lv' := [(2, .int (nI (i + 1))), (0, .ref (ad 0 0)), (1, .ref (ad 1 a))]) hx hb d_KG_leadTo_27 hl (k := 0) rfl (by rw [show Int32.ofInt 1 = nI 1 from by decide]; exact nI_add _ _) (by decide) rfl (fun ls hl => ?_)
      refine lv_goto (tgt := 2) hx hb d_KG_leadTo_30 (by decide) ?_
      refine ih (i + 1) (si Z 15 i 0) ls H locs (by omega) hX ha hd (lv_sub hl [0, 1, 2] rfl) (fun ls H locs hd hl => kk ls H locs ?_ hl)
      have e2 : (if i = a then (1 : Int32) else 0) = 0 := by (repeat (first | (rw [if_pos]; rotate_left; first | assumption | decide) | (rw [if_neg]; rotate_left; first | assumption | decide))) <;> (try rfl)
      exact Dy.eq hd (congrArg (fun q => x_ld0 a (si Z 15 i q) (i + 1) n) e2.symm)
    · refine lv_iconst (v := 1) hx hb d_KG_leadTo_21 (by decide) ?_
      refine lv_goto (tgt := 26) hx hb d_KG_leadTo_22 (by decide) ?_
      refine zzaS (y := 1) (k := i) (Z' := (si Z 15 i 1)) hC hd (by decide) (e_leads hX.ld) (by omega) (by decide) (u_leads hX.ld) d_KG_leadTo_26 (fun H locs hd => ?_)
      refine lv_iinc (v := (nI (i + 1))) (lv' := [(2, .int (nI (i + 1))), (0, .ref (ad 0 0)), (1, .ref (ad 1 a))]) hx hb d_KG_leadTo_27 hl (k := 0) rfl (by rw [show Int32.ofInt 1 = nI 1 from by decide]; exact nI_add _ _) (by decide) rfl (fun ls hl => ?_)
      refine lv_goto (tgt := 2) hx hb d_KG_leadTo_30 (by decide) ?_
      refine ih (i + 1) (si Z 15 i 1) ls H locs (by omega) hX ha hd (lv_sub hl [0, 1, 2] rfl) (fun ls H locs hd hl => kk ls H locs ?_ hl)
      have e2 : (if i = a then (1 : Int32) else 0) = 1 := by (repeat (first | (rw [if_pos]; rotate_left; first | assumption | decide) | (rw [if_neg]; rotate_left; first | assumption | decide))) <;> (try rfl)
      exact Dy.eq hd (congrArg (fun q => x_ld0 a (si Z 15 i q) (i + 1) n) e2.symm)
set_option maxHeartbeats 4000000 in
theorem l2_KG_leadTo {p : Program} {l : Launch} {e : Env} {s : State} {m : MethodId} {args : Array Value} {below : List Frame} {meth : Method} {c : Code} {Q : State → Prop} {G : Gt} {ad : Nat → Nat → Nat} {ow : Nat → Nat × Nat} (a : Nat) (hC : Cx G p c m s args "KeyGraph" b_KG_leadTo 4) : ∀ (n k : Nat) (Z : Zt) (g : Int32) (ls : Array Slot) (H : Heap) (locs : List Loc), XS Z → LB Z → a < xn Z 0 1 → k + n = xn Z 0 1 → Dy G ad ow Z s H locs → lv_has ls 4 [(3, .int (nI k)), (2, .int g), (0, .ref (ad 0 0)), (1, .ref (ad 1 a))] → (∀ (ls : Array Slot) (H : Heap) (locs : List Loc), Dy G ad ow (x_ldK Z g k n).1 s H locs → lv_has ls 4 [(3, .int (nI (k + n))), (2, .int ((x_ldK Z g k n).2)), (0, .ref (ad 0 0)), (1, .ref (ad 1 a))] → W p l e ({ frames := 4, cells := 0, slots := 0, locals := 87 } : Room) s m args below meth c H locs 0 0 Q (F0 m 99 ls [])) → W p l e ({ frames := 4, cells := 0, slots := 0, locals := 87 } : Room) s m args below meth c H locs 0 0 Q (F0 m 43 ls []) := by
  have hx := hC.1
  have hb := hC.2.1
  intro n
  induction n with
  | zero =>
    intro k Z g ls H locs hX hLB ha hi hd hl kk
    have h40 := hX.k40
    have hkl := hX.kl
    refine lv_iload_n hx hb d_KG_leadTo_43 rfl (lv_at hl 0 rfl) ?_
    refine lv_aload_n hx hb d_KG_leadTo_44 rfl (lv_at hl 2 rfl) ?_
    refine zget hC hd (e_kg hX.kg) rfl i_KG 0 (by decide) q_80 (Or.inl rfl) (v := .ref (ad 3 0)) rfl d_KG_leadTo_45 ?_
    refine zb_i (r := (nI (xn Z 2 0))) hd (zrunV (n := 0) (rest := [.int (nI k)]) hC hd (e_list hX.l0) rfl (c_AL_size l G ad ow Z 0 hX.l0) q_101 q_102 q_103 q_4 q_104 rfl rfl rfl (by decide +kernel) ⟨by decide, by decide⟩ rfl hl.1 (Nat.le_of_ble_eq_true rfl) d_KG_leadTo_48 ⟨by decide, by decide⟩) (fun H locs hd => ?_)
    refine zc_ge (x := k) (y := xn Z 2 0) (tgt := 99) (by omega) (by omega) hx hb d_KG_leadTo_51 (by decide) (fun c51 => ?_) (fun c51 => absurd hi (by omega))
    exact kk ls H locs hd hl
  | succ n ih =>
    intro k Z g ls H locs hX hLB ha hi hd hl kk
    have h40 := hX.k40
    have hkl := hX.kl
    have hk : k < xn Z 0 1 := by omega
    refine lv_iload_n hx hb d_KG_leadTo_43 rfl (lv_at hl 0 rfl) ?_
    refine lv_aload_n hx hb d_KG_leadTo_44 rfl (lv_at hl 2 rfl) ?_
    refine zget hC hd (e_kg hX.kg) rfl i_KG 0 (by decide) q_80 (Or.inl rfl) (v := .ref (ad 3 0)) rfl d_KG_leadTo_45 ?_
    refine zb_i (r := (nI (xn Z 2 0))) hd (zrunV (n := 0) (rest := [.int (nI k)]) hC hd (e_list hX.l0) rfl (c_AL_size l G ad ow Z 0 hX.l0) q_101 q_102 q_103 q_4 q_104 rfl rfl rfl (by decide +kernel) ⟨by decide, by decide⟩ rfl hl.1 (Nat.le_of_ble_eq_true rfl) d_KG_leadTo_48 ⟨by decide, by decide⟩) (fun H locs hd => ?_)
    refine zc_ge (x := k) (y := xn Z 2 0) (tgt := 99) (by omega) (by omega) hx hb d_KG_leadTo_51 (by decide) (fun c51 => absurd hi (by omega)) (fun c51 => ?_)
    refine lv_aload_n hx hb d_KG_leadTo_54 rfl (lv_at hl 2 rfl) ?_
    refine zget hC hd (e_kg hX.kg) rfl i_KG 4 (by decide) q_84 (Or.inl rfl) (v := .ref (ad 9 0)) rfl d_KG_leadTo_55 ?_
    refine lv_iload_n hx hb d_KG_leadTo_58 rfl (lv_at hl 0 rfl) ?_
    refine zzaI (k := k) (f := xi Z 15) hC hd (e_leads hX.ld) (by omega) (by decide) d_KG_leadTo_59 ?_
    refine lv_if_ne (tgt := 93) hx hb d_KG_leadTo_60 (by decide) (fun c60 => ?_) (fun c60 => ?_)
    · refine lv_iinc (v := (nI (k + 1))) (lv' := [(3, .int (nI (k + 1))), (2, .int g), (0, .ref (ad 0 0)), (1, .ref (ad 1 a))]) hx hb d_KG_leadTo_93 hl (k := 0) rfl (by rw [show Int32.ofInt 1 = nI 1 from by decide]; exact nI_add _ _) (by decide) rfl (fun ls hl => ?_)
      refine lv_goto (tgt := 43) hx hb d_KG_leadTo_96 (by decide) ?_
      have e2 : x_ldK Z g k (n + 1) = x_ldK Z g (k + 1) n := by rw [x_ldK]; (repeat (first | (rw [if_pos]; rotate_left; first | assumption | decide) | (rw [if_neg]; rotate_left; first | assumption | decide))) <;> (try rfl)
      refine ih (k + 1) Z g ls H locs hX hLB ha (show k + 1 + n = xn Z 0 1 by omega) hd (lv_sub hl [0, 1, 2, 3] rfl) (fun ls H locs hd hl => ?_)
      rw [← e2] at hd hl
      rw [show k + 1 + n = k + (n + 1) by omega] at hl
      exact kk ls H locs hd hl
    · refine lv_aload_n hx hb d_KG_leadTo_63 rfl (lv_at hl 2 rfl) ?_
      refine lv_aload_n hx hb d_KG_leadTo_64 rfl (lv_at hl 2 rfl) ?_
      refine zget hC hd (e_kg hX.kg) rfl i_KG 0 (by decide) q_80 (Or.inl rfl) (v := .ref (ad 3 0)) rfl d_KG_leadTo_65 ?_
      refine lv_iload_n hx hb d_KG_leadTo_68 rfl (lv_at hl 0 rfl) ?_
      refine zb_a (r := (ad 1 k)) hd (zrunV (n := 1) (rest := [.ref (ad 0 0)]) hC hd (e_list hX.l0) rfl (c_get l G ad ow Z hX 0 k k hX.l0 (show k < xn Z 2 0 by rw [hX.kl]; exact hk) (hX.ke hk)) q_352 q_353 q_354 q_4 q_355 rfl rfl rfl (by decide +kernel) ⟨by decide, by decide⟩ rfl hl.1 (Nat.le_of_ble_eq_true rfl) d_KG_leadTo_69 ⟨by decide, by decide⟩) (fun H locs hd => ?_)
      refine zcast hC hd (e_key hk) q_105 d_KG_leadTo_72 ?_
      refine zb_i (r := (x_one Z k (xn Z 2 (k + 2)) 0 0)) hd (zrunV (n := 1) (rest := []) hC hd (e_kg hX.kg) rfl (c_KG_asksOne l G ad ow Z hX hLB k hk) q_374 q_376 qp_6 q_1 q_377 rfl rfl rfl (by decide +kernel) ⟨by decide, by decide⟩ rfl hl.1 (Nat.le_of_ble_eq_true rfl) d_KG_leadTo_75 ⟨by decide, by decide⟩) (fun H locs hd => ?_)
      refine lv_if_ne (tgt := 84) hx hb d_KG_leadTo_78 (by decide) (fun c78 => ?_) (fun c78 => ?_)
      · refine lv_aload_n hx hb d_KG_leadTo_84 rfl (lv_at hl 2 rfl) ?_
        refine zget hC hd (e_kg hX.kg) rfl i_KG 4 (by decide) q_84 (Or.inl rfl) (v := .ref (ad 9 0)) rfl d_KG_leadTo_85 ?_
        refine lv_iload_n hx hb d_KG_leadTo_88 rfl (lv_at hl 0 rfl) ?_
        refine lv_iconst (v := 1) hx hb d_KG_leadTo_89 (by decide) ?_
        refine zzaS (y := 1) (k := k) (Z' := (si Z 15 k 1)) hC hd (by decide) (e_leads hX.ld) (by omega) (by decide) (u_leads hX.ld) d_KG_leadTo_90 (fun H locs hd => ?_)
        refine lv_iconst (v := 1) hx hb d_KG_leadTo_91 (by decide) ?_
        refine lv_istore_n (lv' := [(2, .int 1), (3, .int (nI k)), (0, .ref (ad 0 0)), (1, .ref (ad 1 a))]) hx hb d_KG_leadTo_92 rfl hl (by decide) rfl (fun ls hl => ?_)
        refine lv_iinc (v := (nI (k + 1))) (lv' := [(3, .int (nI (k + 1))), (2, .int 1), (0, .ref (ad 0 0)), (1, .ref (ad 1 a))]) hx hb d_KG_leadTo_93 hl (k := 1) rfl (by rw [show Int32.ofInt 1 = nI 1 from by decide]; exact nI_add _ _) (by decide) rfl (fun ls hl => ?_)
        refine lv_goto (tgt := 43) hx hb d_KG_leadTo_96 (by decide) ?_
        have e2 : x_ldK Z g k (n + 1) = x_ldK (si Z 15 k 1) 1 (k + 1) n := by rw [x_ldK]; (repeat (first | (rw [if_pos]; rotate_left; first | assumption | decide) | (rw [if_neg]; rotate_left; first | assumption | decide))) <;> (try rfl)
        refine ih (k + 1) (si Z 15 k 1) 1 ls H locs hX ((XLD.set Z k 1 (Or.inr rfl)).2.2 hLB) ha (show k + 1 + n = xn Z 0 1 by omega) hd (lv_sub hl [0, 1, 2, 3] rfl) (fun ls H locs hd hl => ?_)
        rw [← e2] at hd hl
        rw [show k + 1 + n = k + (n + 1) by omega] at hl
        exact kk ls H locs hd hl
      · refine lv_goto (tgt := 93) hx hb d_KG_leadTo_81 (by decide) ?_
        refine lv_iinc (v := (nI (k + 1))) (lv' := [(3, .int (nI (k + 1))), (2, .int g), (0, .ref (ad 0 0)), (1, .ref (ad 1 a))]) hx hb d_KG_leadTo_93 hl (k := 0) rfl (by rw [show Int32.ofInt 1 = nI 1 from by decide]; exact nI_add _ _) (by decide) rfl (fun ls hl => ?_)
        refine lv_goto (tgt := 43) hx hb d_KG_leadTo_96 (by decide) ?_
        have e2 : x_ldK Z g k (n + 1) = x_ldK Z g (k + 1) n := by rw [x_ldK]; (repeat (first | (rw [if_pos]; rotate_left; first | assumption | decide) | (rw [if_neg]; rotate_left; first | assumption | decide))) <;> (try rfl)
        refine ih (k + 1) Z g ls H locs hX hLB ha (show k + 1 + n = xn Z 0 1 by omega) hd (lv_sub hl [0, 1, 2, 3] rfl) (fun ls H locs hd hl => ?_)
        rw [← e2] at hd hl
        rw [show k + 1 + n = k + (n + 1) by omega] at hl
        exact kk ls H locs hd hl
set_option maxHeartbeats 4000000 in
theorem l3_KG_leadTo {p : Program} {l : Launch} {e : Env} {s : State} {m : MethodId} {args : Array Value} {below : List Frame} {meth : Method} {c : Code} {Q : State → Prop} {G : Gt} {ad : Nat → Nat → Nat} {ow : Nat → Nat × Nat} (a : Nat) (Z9 : Zt) (hC : Cx G p c m s args "KeyGraph" b_KG_leadTo 4) : ∀ (n : Nat) (Z : Zt) (g : Int32) (ls : Array Slot) (H : Heap) (locs : List Loc), x_ldW n Z g Z9 → XS Z → LB Z → a < xn Z 0 1 → Dy G ad ow Z s H locs → lv_has ls 4 [(2, .int g), (0, .ref (ad 0 0)), (1, .ref (ad 1 a))] → (∀ (ls : Array Slot) (H : Heap) (locs : List Loc), Dy G ad ow Z9 s H locs → W p l e ({ frames := 4, cells := 0, slots := 0, locals := 87 } : Room) s m args below meth c H locs 0 0 Q (F0 m 102 ls [])) → W p l e ({ frames := 4, cells := 0, slots := 0, locals := 87 } : Room) s m args below meth c H locs 0 0 Q (F0 m 35 ls []) := by
  have hx := hC.1
  have hb := hC.2.1
  intro n
  induction n with
  | zero => exact fun Z g ls H locs hw => hw.elim
  | succ n ih =>
    intro Z g ls H locs hw hX hLB ha hd hl kk
    unfold x_ldW at hw
    refine lv_iload_n hx hb d_KG_leadTo_35 rfl (lv_at hl 0 rfl) ?_
    refine lv_if_eq (tgt := 102) hx hb d_KG_leadTo_36 (by decide) (fun c36 => ?_) (fun c36 => ?_)
    · rw [if_pos c36] at hw
      exact kk ls H locs (Dy.eq hd hw.symm)
    · refine lv_iconst (v := 0) hx hb d_KG_leadTo_39 (by decide) ?_
      refine lv_istore_n (lv' := [(2, .int 0), (0, .ref (ad 0 0)), (1, .ref (ad 1 a))]) hx hb d_KG_leadTo_40 rfl hl (by decide) rfl (fun ls hl => ?_)
      refine lv_iconst (v := 0) hx hb d_KG_leadTo_41 (by decide) ?_
      refine lv_istore_n (lv' := [(3, .int 0), (2, .int 0), (0, .ref (ad 0 0)), (1, .ref (ad 1 a))]) hx hb d_KG_leadTo_42 rfl hl (by decide) rfl (fun ls hl => ?_)
      rw [if_neg c36] at hw
      refine l2_KG_leadTo a hC (xn Z 0 1) 0 Z 0 ls H locs hX hLB ha (by omega) hd (lv_sub hl [0, 1, 2, 3] rfl) (fun ls H locs hd hl => ?_)
      have hL := x_ldK_LD (xn Z 0 1) Z 0 0
      refine lv_goto (tgt := 35) hx hb d_KG_leadTo_99 (by decide) ?_
      exact ih _ _ ls H locs hw (hL.toXS hX) (hL.2.2 hLB) (by rw [hL.gn]; exact ha) hd (lv_sub hl [1, 2, 3] rfl) kk
set_option maxHeartbeats 4000000 in
theorem c_KG_leadTo (l : Launch) (G : Gt) (ad : Nat → Nat → Nat) (ow : Nat → Nat × Nat) (Z : Zt) (hX : XS Z) (hLB : LB Z) (a : Nat) (ha : a < xn Z 0 1) (N : Nat) (Z9 : Zt) (hw : x_ldW N (x_ld0 a Z 0 40) 1 Z9) : Met l y_KG_leadTo w_KG_leadTo ({ frames := 4, cells := 0, slots := 0, locals := 87 }) (zPc G ad ow Z [.ref (ad 0 0), .ref (ad 1 a)]) (Qd G ad ow Z9 (none)) 0 0 (zA G) := by
  refine zopen (cc := b_KG_leadTo) (maxL := 4) (ret := none) (by decide) rfl (Nat.le_of_ble_eq_true rfl) ?_
  intro p e s m below meth c ls hC hr hlk hnm hd hl
  have hC : Cx G p c m s _ "KeyGraph" b_KG_leadTo 4 := hC
  have hl : lv_has ls 4 [(0, .ref (ad 0 0)), (1, .ref (ad 1 a))] := hl
  have hx := hC.1
  have hb := hC.2.1
  obtain ⟨H, hH⟩ : ∃ q, q = s.heap := ⟨_, rfl⟩
  obtain ⟨locs, hlocs⟩ : ∃ q : List Loc, q = [] := ⟨_, rfl⟩
  rw [← hH, ← hlocs] at hd
  rw [← hH, ← hlocs]
  refine lv_iconst (v := 0) hx hb d_KG_leadTo_0 (by decide) ?_
  refine lv_istore_n (lv' := [(2, .int 0), (0, .ref (ad 0 0)), (1, .ref (ad 1 a))]) hx hb d_KG_leadTo_1 rfl hl (by decide) rfl (fun ls hl => ?_)
  refine l1_KG_leadTo a hC 40 0 Z ls H locs (by omega) hX ha hd (lv_sub hl [0, 1, 2] rfl) (fun ls H locs hd hl => ?_)
  have hL := x_ld0_LD a 40 Z 0
  refine lv_iconst (v := 1) hx hb d_KG_leadTo_33 (by decide) ?_
  refine lv_istore_n (lv' := [(2, .int 1), (0, .ref (ad 0 0)), (1, .ref (ad 1 a))]) hx hb d_KG_leadTo_34 rfl hl (by decide) rfl (fun ls hl => ?_)
  refine l3_KG_leadTo a Z9 hC N _ 1 ls H locs hw (hL.toXS hX) (hL.2.2 hLB) (by rw [hL.gn]; exact ha) hd (lv_sub hl [0, 1, 2] rfl) (fun ls H locs hd => ?_)
  exact zfv hC hd hr hlk d_KG_leadTo_102 rfl
