/-! lists of what is being made: numbers and what they name -/
def look {α : Type} : List (Nat × α) → Nat → Option α
  | [], _ => none
  | (r, e) :: L, i => bif Nat.beq i r then some e else look L i
def sat {α : Type} : List (Nat × α) → Nat → α → List (Nat × α)
  | [], r, e => [(r, e)]
  | (q, x) :: L, r, e => bif Nat.beq r q then (r, e) :: L else (q, x) :: sat L r e
def mrg {α : Type} : List (Nat × α) → List (Nat × α) → List (Nat × α)
  | L, [] => L
  | L, (r, e) :: M => mrg (sat L r e) M
def srs (Z : Zt) (L : List (Nat × va_E)) : Zt := (Z.1, Z.2.1, Z.2.2.1, Z.2.2.2.1, fun i => (look L i).or (xr Z i))
def ads (ad : Nat → Nat → Nat) (A : List (Nat × Nat)) : Nat → Nat → Nat := fun o i => bif Nat.beq o 13 then (look A i).getD (ad 13 i) else ad o i
theorem bifN {α : Type} (a b : Nat) (x y : α) : (bif Nat.beq a b then x else y) = if a = b then x else y := by
  by_cases h : a = b
  · rw [if_pos h, h, Nat.beq_refl]; rfl
  · rw [if_neg h]
    cases hb : Nat.beq a b with
    | true => exact absurd (Nat.eq_of_beq_eq_true hb) h
    | false => rfl
theorem look_cons {α : Type} (r : Nat) (e : α) (L : List (Nat × α)) (i : Nat) : look ((r, e) :: L) i = if i = r then some e else look L i := bifN _ _ _ _
theorem sat_cons {α : Type} (q : Nat) (x : α) (L : List (Nat × α)) (r : Nat) (e : α) : sat ((q, x) :: L) r e = if r = q then (r, e) :: L else (q, x) :: sat L r e := bifN _ _ _ _
theorem ads_def (ad : Nat → Nat → Nat) (A : List (Nat × Nat)) (o i : Nat) : ads ad A o i = if o = 13 then (look A i).getD (ad 13 i) else ad o i := bifN _ _ _ _
theorem look_sat {α : Type} : ∀ (L : List (Nat × α)) (r : Nat) (e : α) (i : Nat), look (sat L r e) i = if i = r then some e else look L i
  | [], r, e, i => look_cons r e [] i
  | (q, x) :: L, r, e, i => by
    rw [sat_cons, look_cons]
    by_cases h : r = q
    · rw [if_pos h, look_cons]
      by_cases h2 : i = r
      · rw [if_pos h2, if_pos h2]
      · rw [if_neg h2, if_neg h2, if_neg (by rw [← h]; exact h2)]
    · rw [if_neg h, look_cons]
      rw [look_sat L r e i]
      by_cases h2 : i = q
      · rw [if_pos h2, if_neg (by rw [h2]; exact fun z => h z.symm), if_pos h2]
      · rw [if_neg h2, if_neg h2]
theorem srs_nil (Z : Zt) : srs Z [] = Z := rfl
theorem ads_nil (ad : Nat → Nat → Nat) : ads ad [] = ad := by
  funext o i
  rw [ads_def]
  by_cases h : o = 13
  · rw [if_pos h, h]; rfl
  · rw [if_neg h]
theorem srs_sat (Z : Zt) (L : List (Nat × va_E)) (r : Nat) (e : va_E) : sr (srs Z L) r (some e) = srs Z (sat L r e) := by
  have h : (fun a => if a = r then some e else (look L a).or (xr Z a)) = fun i => (look (sat L r e) i).or (xr Z i) := by
    funext i
    rw [look_sat]
    by_cases h : i = r
    · rw [if_pos h, if_pos h]; rfl
    · rw [if_neg h, if_neg h]
  exact congrArg (fun q => ((Z.1, Z.2.1, Z.2.2.1, Z.2.2.2.1, q) : Zt)) h
theorem ads_sat (ad : Nat → Nat → Nat) (A : List (Nat × Nat)) (r a : Nat) : upA (ads ad A) 13 r a = ads ad (sat A r a) := by
  funext o i
  unfold upA
  rw [ads_def, ads_def, look_sat]
  by_cases h : o = 13
  · by_cases h2 : i = r
    · rw [if_pos ⟨h, h2⟩, if_pos h, if_pos h2]; rfl
    · rw [if_neg (fun q => h2 q.2), if_pos h, if_pos h, if_neg h2]
  · rw [if_neg (fun q => h q.1), if_neg h, if_neg h]
theorem look_mrg {α : Type} : ∀ (M L : List (Nat × α)) (i : Nat), (∀ (r : Nat) (e : α), (r, e) ∈ M → ∀ e', (r, e') ∈ M → e = e') → look (mrg L M) i = (look M i).or (look L i)
  | [], L, i, _ => rfl
  | (r, e) :: M, L, i, h => by
    unfold mrg
    rw [look_mrg M (sat L r e) i (fun r1 e1 h1 e2 h2 => h r1 e1 (List.mem_cons_of_mem _ h1) e2 (List.mem_cons_of_mem _ h2)), look_sat]
    rw [look_cons]
    by_cases h2 : i = r
    · rw [if_pos h2, if_pos h2]
      cases hM : look M i with
      | none => rfl
      | some e' =>
        have := look_mem M i e' hM
        rw [h2] at this
        rw [h r e List.mem_cons_self e' (List.mem_cons_of_mem _ this)]
        rfl
    · rw [if_neg h2, if_neg h2]
where
  look_mem {α : Type} : ∀ (M : List (Nat × α)) (i : Nat) (e : α), look M i = some e → (i, e) ∈ M
  | [], _, _, h => by cases h
  | (r, x) :: M, i, e, h => by
    rw [look_cons] at h
    by_cases h2 : i = r
    · rw [if_pos h2] at h
      cases h
      rw [h2]
      exact List.mem_cons_self
    · rw [if_neg h2] at h
      exact List.mem_cons_of_mem _ (look_mem M i e h)
def okL {α : Type} : List (Nat × α) → Bool
  | [] => true
  | (r, _) :: M => (M.all fun x => x.1 != r) && okL M
theorem okL_spec {α : Type} : ∀ (M : List (Nat × α)), okL M = true → ∀ (r : Nat) (e : α), (r, e) ∈ M → ∀ e', (r, e') ∈ M → e = e'
  | [], _, _, _, h, _, _ => by cases h
  | (q, x) :: M, hk, r, e, h1, e', h2 => by
    unfold okL at hk
    rw [Bool.and_eq_true] at hk
    have hq : ∀ y, (q, y) ∈ M → False := fun y hy => by
      have := List.all_eq_true.mp hk.1 _ hy
      simp at this
    rcases List.mem_cons.mp h1 with h1 | h1
    · cases h1
      rcases List.mem_cons.mp h2 with h2 | h2
      · cases h2; rfl
      · exact (hq _ h2).elim
    · rcases List.mem_cons.mp h2 with h2 | h2
      · cases h2; exact (hq _ h1).elim
      · exact okL_spec M hk.2 r e h1 e' h2
theorem srs_srs (Z : Zt) (L M : List (Nat × va_E)) (h : okL M = true) : srs (srs Z L) M = srs Z (mrg L M) := by
  have h2 : (fun i => (look M i).or ((look L i).or (xr Z i))) = fun i => (look (mrg L M) i).or (xr Z i) := by
    funext i
    rw [look_mrg M L i (okL_spec M h), Option.or_assoc]
  exact congrArg (fun q => ((Z.1, Z.2.1, Z.2.2.1, Z.2.2.2.1, q) : Zt)) h2
theorem ads_ads (ad : Nat → Nat → Nat) (A B : List (Nat × Nat)) (h : okL B = true) : ads (ads ad A) B = ads ad (mrg A B) := by
  funext o i
  rw [ads_def, ads_def, ads_def, ads_def, look_mrg B A i (okL_spec B h)]
  by_cases h : o = 13
  · rw [if_pos h, if_pos h, if_pos rfl]
    cases look B i <;> rfl
  · rw [if_neg h, if_neg h, if_neg h]
theorem Dy.norm {G : Gt} {ad : Nat → Nat → Nat} {ow : Nat → Nat × Nat} {Z : Zt} {s : State} {H : Heap} {locs : List Loc} {A : List (Nat × Nat)} {L : List (Nat × va_E)} {r a : Nat} {e : va_E} {A' : List (Nat × Nat)} {L' : List (Nat × va_E)} (h : Dy G (upA (ads ad A) 13 r a) ow (sr (srs Z L) r (some e)) s H locs) (hA : sat A r a = A') (hL : sat L r e = L') : Dy G (ads ad A') ow (srs Z L') s H locs := by
  rw [← hA, ← hL, ← srs_sat, ← ads_sat]; exact h
theorem Dy.norm0 {G : Gt} {ad : Nat → Nat → Nat} {ow : Nat → Nat × Nat} {Z : Zt} {s : State} {H : Heap} {locs : List Loc} {L : List (Nat × va_E)} {r : Nat} {e : va_E} {L' : List (Nat × va_E)} (h : Dy G ad ow (sr (srs Z L) r (some e)) s H locs) (hL : sat L r e = L') : Dy G ad ow (srs Z L') s H locs := by
  rw [← hL, ← srs_sat]; exact h
theorem Dy.normC {G : Gt} {ad : Nat → Nat → Nat} {ow : Nat → Nat × Nat} {Z : Zt} {s : State} {H : Heap} {locs : List Loc} {A B : List (Nat × Nat)} {L M : List (Nat × va_E)} {A' : List (Nat × Nat)} {L' : List (Nat × va_E)} (h : Dy G (ads (ads ad A) B) ow (srs (srs Z L) M) s H locs) (hB : okL B = true) (hM : okL M = true) (hA : mrg A B = A') (hL : mrg L M = L') : Dy G (ads ad A') ow (srs Z L') s H locs := by
  rw [← hA, ← hL, ← srs_srs _ _ _ hM, ← ads_ads _ _ _ hB]; exact h
theorem zinL {x : Int32} {n : Nat} (h : (decide (0 ≤ x) && decide (x.toNatClampNeg < n)) = true) : vp_in x n := by
  rw [Bool.and_eq_true, decide_eq_true_eq, decide_eq_true_eq] at h
  intro q
  rcases q with q | q
  · exact absurd h.1 (Int32.not_le.mpr q)
  · omega

theorem df_KG : ∀ j, j < 5 → defaultValue (t_KG j) = vp_V [.null, .null, .null, .int 0, .null] j := by
  intro j hj
  match j, hj with
  | 0, _ => rfl
  | 1, _ => rfl
  | 2, _ => rfl
  | 3, _ => rfl
  | 4, _ => rfl
  | (n + 5), h => exact absurd h (by omega)
theorem df_Key : ∀ j, j < 18 → defaultValue (t_Key j) = vp_V [.int 0, .null, .null, .int 0, .long 0, .int 0, .int 0, .int 0, .int 0, .int 0, .int 0, .null, .null, .int 0, .int 0, .int 0, .int 0, .int 0] j := by
  intro j hj
  match j, hj with
  | 0, _ => rfl
  | 1, _ => rfl
  | 2, _ => rfl
  | 3, _ => rfl
  | 4, _ => rfl
  | 5, _ => rfl
  | 6, _ => rfl
  | 7, _ => rfl
  | 8, _ => rfl
  | 9, _ => rfl
  | 10, _ => rfl
  | 11, _ => rfl
  | 12, _ => rfl
  | 13, _ => rfl
  | 14, _ => rfl
  | 15, _ => rfl
  | 16, _ => rfl
  | 17, _ => rfl
  | (n + 18), h => exact absurd h (by omega)
theorem df_Sum : ∀ j, j < 5 → defaultValue (t_Sum j) = vp_V [.int 0, .int 0, .long 0, .int 0, .int 0] j := by
  intro j hj
  match j, hj with
  | 0, _ => rfl
  | 1, _ => rfl
  | 2, _ => rfl
  | 3, _ => rfl
  | 4, _ => rfl
  | (n + 5), h => exact absurd h (by omega)
theorem df_First : ∀ j, j < 4 → defaultValue (t_First j) = vp_V [.int 0, .int 0, .long 0, .int 0] j := by
  intro j hj
  match j, hj with
  | 0, _ => rfl
  | 1, _ => rfl
  | 2, _ => rfl
  | 3, _ => rfl
  | (n + 4), h => exact absurd h (by omega)
theorem df_Choice : ∀ j, j < 5 → defaultValue (t_Choice j) = vp_V [.int 0, .int 0, .long 0, .int 0, .int 0] j := by
  intro j hj
  match j, hj with
  | 0, _ => rfl
  | 1, _ => rfl
  | 2, _ => rfl
  | 3, _ => rfl
  | 4, _ => rfl
  | (n + 5), h => exact absurd h (by omega)
theorem df_Quot : ∀ j, j < 4 → defaultValue (t_Quot j) = vp_V [.int 0, .int 0, .long 0, .int 0] j := by
  intro j hj
  match j, hj with
  | 0, _ => rfl
  | 1, _ => rfl
  | 2, _ => rfl
  | 3, _ => rfl
  | (n + 4), h => exact absurd h (by omega)
theorem df_Great : ∀ j, j < 4 → defaultValue (t_Great j) = vp_V [.int 0, .int 0, .long 0, .int 0] j := by
  intro j hj
  match j, hj with
  | 0, _ => rfl
  | 1, _ => rfl
  | 2, _ => rfl
  | 3, _ => rfl
  | (n + 4), h => exact absurd h (by omega)
theorem df_Pile : ∀ j, j < 2 → defaultValue (t_Pile j) = vp_V [.null, .int 0] j := by
  intro j hj
  match j, hj with
  | 0, _ => rfl
  | 1, _ => rfl
  | (n + 2), h => exact absurd h (by omega)
theorem df_AL : ∀ j, j < 3 → defaultValue (t_AL j) = vp_V [.int 0, .null, .int 0] j := by
  intro j hj
  match j, hj with
  | 0, _ => rfl
  | 1, _ => rfl
  | 2, _ => rfl
  | (n + 3), h => exact absurd h (by omega)
theorem df_Mod : ∀ j, j < 25 → defaultValue (t_Mod j) = vp_V [.int 0, .int 0, .int 0, .null, .null, .null, .null, .null, .null, .null, .null, .null, .null, .null, .null, .null, .null, .null, .null, .null, .null, .null, .null, .int 0, .null] j := by
  intro j hj
  match j, hj with
  | 0, _ => rfl
  | 1, _ => rfl
  | 2, _ => rfl
  | 3, _ => rfl
  | 4, _ => rfl
  | 5, _ => rfl
  | 6, _ => rfl
  | 7, _ => rfl
  | 8, _ => rfl
  | 9, _ => rfl
  | 10, _ => rfl
  | 11, _ => rfl
  | 12, _ => rfl
  | 13, _ => rfl
  | 14, _ => rfl
  | 15, _ => rfl
  | 16, _ => rfl
  | 17, _ => rfl
  | 18, _ => rfl
  | 19, _ => rfl
  | 20, _ => rfl
  | 21, _ => rfl
  | 22, _ => rfl
  | 23, _ => rfl
  | 24, _ => rfl
  | (n + 25), h => exact absurd h (by omega)
set_option maxHeartbeats 4000000 in
theorem c_AbsC_init_1 (l : Launch) (G : Gt) (ad : Nat → Nat → Nat) (ow : Nat → Nat × Nat) (Z : Zt) (h13 : 50 ≤ xn Z 0 13) (he : xr Z 1 = some (.inr (8, [.int 0, .null, .int 0]))) : Met l y_AbsC_init w_AbsC_init ({ frames := 1, cells := 0, slots := 0, locals := 20 }) (zPc G ad ow Z [.ref (ad 13 1)]) (Qg G (fun ad9 _ Z9 v9 => (ads ad []) = ad9 ∧ (srs Z []) = Z9 ∧ none = v9)) 0 0 (zA G) := by
  refine zopen (cc := b_AbsC_init) (maxL := 1) (ret := none) (by decide) rfl (Nat.le_of_ble_eq_true rfl) ?_
  intro p e s m below meth c ls hC hr hlk hnm hd hl
  have hC : Cx G p c m s _ "java/util/AbstractCollection" b_AbsC_init 1 := hC
  have hl : lv_has ls 1 [(0, .ref (ad 13 1))] := hl
  have hx := hC.1
  have hb := hC.2.1
  have hd : Dy G (ads ad []) ow (srs Z []) s s.heap [] := by rw [ads_nil, srs_nil]; exact hd
  obtain ⟨H, hH⟩ : ∃ q, q = s.heap := ⟨_, rfl⟩
  obtain ⟨locs, hlocs⟩ : ∃ q : List Loc, q = [] := ⟨_, rfl⟩
  rw [← hH, ← hlocs] at hd
  rw [← hH, ← hlocs]
  refine lv_aload_n hx hb d_AbsC_init_0 rfl (lv_at hl 0 rfl) ?_
  refine zobj hC hl.1 q_44 q_31 q_32 (Nat.le_of_ble_eq_true rfl) (by decide) d_AbsC_init_1 ?_
  exact zgv hC hd hr hlk d_AbsC_init_4 ⟨rfl, rfl, rfl⟩ (Nat.le_of_ble_eq_true rfl) (Nat.le_of_ble_eq_true rfl)
set_option maxHeartbeats 4000000 in
theorem c_AbsL_init_1 (l : Launch) (G : Gt) (ad : Nat → Nat → Nat) (ow : Nat → Nat × Nat) (Z : Zt) (h13 : 50 ≤ xn Z 0 13) (he : xr Z 1 = some (.inr (8, [.int 0, .null, .int 0]))) : Met l y_AbsL_init w_AbsL_init ({ frames := 2, cells := 0, slots := 0, locals := 40 }) (zPc G ad ow Z [.ref (ad 13 1)]) (Qg G (fun ad9 _ Z9 v9 => (ads ad []) = ad9 ∧ (srs Z [(1, .inr (8, [.int 0, .null, .int 0]))]) = Z9 ∧ none = v9)) 0 0 (zA G) := by
  refine zopen (cc := b_AbsL_init) (maxL := 1) (ret := none) (by decide) rfl (Nat.le_of_ble_eq_true rfl) ?_
  intro p e s m below meth c ls hC hr hlk hnm hd hl
  have hC : Cx G p c m s _ "java/util/AbstractList" b_AbsL_init 1 := hC
  have hl : lv_has ls 1 [(0, .ref (ad 13 1))] := hl
  have hx := hC.1
  have hb := hC.2.1
  have hd : Dy G (ads ad []) ow (srs Z []) s s.heap [] := by rw [ads_nil, srs_nil]; exact hd
  obtain ⟨H, hH⟩ : ∃ q, q = s.heap := ⟨_, rfl⟩
  obtain ⟨locs, hlocs⟩ : ∃ q : List Loc, q = [] := ⟨_, rfl⟩
  rw [← hH, ← hlocs] at hd
  rw [← hH, ← hlocs]
  refine lv_aload_n hx hb d_AbsL_init_0 rfl (lv_at hl 0 rfl) ?_
  refine zbackg hd (zrunI (n := 0) (rest := []) hC hd (c_AbsC_init_1 l G (ads ad []) ow (srs Z []) (show 50 ≤ xn Z 0 13 from h13) he) q_41 q_42 q_2 q_43 rfl rfl rfl rfl ⟨by decide, by decide, by decide +kernel⟩ ⟨by decide, by decide⟩ rfl hl.1 (Nat.le_of_ble_eq_true rfl) d_AbsL_init_1 ⟨by decide, by decide⟩) rfl rfl (fun ad9 ow Z9 v9 H locs hq hd => ?_)
  obtain ⟨rfl, rfl, rfl⟩ := hq
  have hd := Dy.normC (A' := []) (L' := []) hd rfl rfl rfl rfl
  refine lv_aload_n hx hb d_AbsL_init_4 rfl (lv_at hl 0 rfl) ?_
  refine lv_iconst (v := 0) hx hb d_AbsL_init_5 (by decide) ?_
  refine zput (Z' := (sr (srs Z []) 1 (some (.inr (8, [.int 0, .null, .int 0]))))) (v := .int 0) (ad := (ads ad [])) (o := 13) (i := 1) hC hd (e_raw (ad := (ads ad [])) (Z := (srs Z [])) (e := .inr (8, [.int 0, .null, .int 0])) (show 1 < xn Z 0 13 by omega) he) rfl i_AL t_AL t_AL_ok n_AL 0 (by decide) q_49 (Or.inl rfl) rfl rfl rfl (Nat.le_of_ble_eq_true rfl) (u_raw (show 1 < xn Z 0 13 by omega)) d_AbsL_init_6 (fun H locs hd => ?_)
  have hd := Dy.norm0 (L' := [(1, .inr (8, [.int 0, .null, .int 0]))]) hd rfl
  exact zgv hC hd hr hlk d_AbsL_init_9 ⟨rfl, rfl, rfl⟩ (Nat.le_of_ble_eq_true rfl) (Nat.le_of_ble_eq_true rfl)
set_option maxHeartbeats 4000000 in
theorem c_AL_init_1 (l : Launch) (G : Gt) (ad : Nat → Nat → Nat) (ow : Nat → Nat × Nat) (Z : Zt) (h13 : 50 ≤ xn Z 0 13) (he : xr Z 1 = some (.inr (8, [.int 0, .null, .int 0]))) : Met l y_AL_init w_AL_init ({ frames := 3, cells := 0, slots := 0, locals := 60 }) (zPc G ad ow Z [.ref (ad 13 1)]) (Qg G (fun ad9 _ Z9 v9 => (ads ad []) = ad9 ∧ (srs Z [(1, .inr (8, [.int 0, .ref (ge G), .int 0]))]) = Z9 ∧ none = v9)) 0 0 (zA G) := by
  refine zopen (cc := b_AL_init) (maxL := 1) (ret := none) (by decide) rfl (Nat.le_of_ble_eq_true rfl) ?_
  intro p e s m below meth c ls hC hr hlk hnm hd hl
  have hC : Cx G p c m s _ "java/util/ArrayList" b_AL_init 1 := hC
  have hl : lv_has ls 1 [(0, .ref (ad 13 1))] := hl
  have hx := hC.1
  have hb := hC.2.1
  have hd : Dy G (ads ad []) ow (srs Z []) s s.heap [] := by rw [ads_nil, srs_nil]; exact hd
  obtain ⟨H, hH⟩ : ∃ q, q = s.heap := ⟨_, rfl⟩
  obtain ⟨locs, hlocs⟩ : ∃ q : List Loc, q = [] := ⟨_, rfl⟩
  rw [← hH, ← hlocs] at hd
  rw [← hH, ← hlocs]
  refine lv_aload_n hx hb d_AL_init_0 rfl (lv_at hl 0 rfl) ?_
  refine zbackg hd (zrunI (n := 0) (rest := []) hC hd (c_AbsL_init_1 l G (ads ad []) ow (srs Z []) (show 50 ≤ xn Z 0 13 from h13) he) q_38 q_39 q_3 q_40 rfl rfl rfl rfl ⟨by decide, by decide, by decide +kernel⟩ ⟨by decide, by decide⟩ rfl hl.1 (Nat.le_of_ble_eq_true rfl) d_AL_init_1 ⟨by decide, by decide⟩) rfl rfl (fun ad9 ow Z9 v9 H locs hq hd => ?_)
  obtain ⟨rfl, rfl, rfl⟩ := hq
  have hd := Dy.normC (A' := []) (L' := [(1, .inr (8, [.int 0, .null, .int 0]))]) hd rfl rfl rfl rfl
  refine lv_aload_n hx hb d_AL_init_4 rfl (lv_at hl 0 rfl) ?_
  refine zgetsE (ad := (ads ad [])) (rest := [.ref (ad 13 1)]) hC hd q_45 d_AL_init_5 ?_
  refine zput (Z' := (sr (srs Z [(1, .inr (8, [.int 0, .null, .int 0]))]) 1 (some (.inr (8, [.int 0, .ref (ge G), .int 0]))))) (v := .ref (ge G)) (ad := (ads ad [])) (o := 13) (i := 1) hC hd (e_raw (ad := (ads ad [])) (Z := (srs Z [(1, .inr (8, [.int 0, .null, .int 0]))])) (e := .inr (8, [.int 0, .null, .int 0])) (show 1 < xn Z 0 13 by omega) rfl) rfl i_AL t_AL t_AL_ok n_AL 1 (by decide) q_47 (Or.inl rfl) rfl rfl rfl (Nat.le_of_ble_eq_true rfl) (u_raw (show 1 < xn Z 0 13 by omega)) d_AL_init_8 (fun H locs hd => ?_)
  have hd := Dy.norm0 (L' := [(1, .inr (8, [.int 0, .ref (ge G), .int 0]))]) hd rfl
  exact zgv hC hd hr hlk d_AL_init_11 ⟨rfl, rfl, rfl⟩ (Nat.le_of_ble_eq_true rfl) (Nat.le_of_ble_eq_true rfl)
set_option maxHeartbeats 4000000 in
theorem c_AbsC_init_2 (l : Launch) (G : Gt) (ad : Nat → Nat → Nat) (ow : Nat → Nat × Nat) (Z : Zt) (h13 : 50 ≤ xn Z 0 13) (he : xr Z 2 = some (.inr (8, [.int 0, .null, .int 0]))) : Met l y_AbsC_init w_AbsC_init ({ frames := 1, cells := 0, slots := 0, locals := 20 }) (zPc G ad ow Z [.ref (ad 13 2)]) (Qg G (fun ad9 _ Z9 v9 => (ads ad []) = ad9 ∧ (srs Z []) = Z9 ∧ none = v9)) 0 0 (zA G) := by
  refine zopen (cc := b_AbsC_init) (maxL := 1) (ret := none) (by decide) rfl (Nat.le_of_ble_eq_true rfl) ?_
  intro p e s m below meth c ls hC hr hlk hnm hd hl
  have hC : Cx G p c m s _ "java/util/AbstractCollection" b_AbsC_init 1 := hC
  have hl : lv_has ls 1 [(0, .ref (ad 13 2))] := hl
  have hx := hC.1
  have hb := hC.2.1
  have hd : Dy G (ads ad []) ow (srs Z []) s s.heap [] := by rw [ads_nil, srs_nil]; exact hd
  obtain ⟨H, hH⟩ : ∃ q, q = s.heap := ⟨_, rfl⟩
  obtain ⟨locs, hlocs⟩ : ∃ q : List Loc, q = [] := ⟨_, rfl⟩
  rw [← hH, ← hlocs] at hd
  rw [← hH, ← hlocs]
  refine lv_aload_n hx hb d_AbsC_init_0 rfl (lv_at hl 0 rfl) ?_
  refine zobj hC hl.1 q_44 q_31 q_32 (Nat.le_of_ble_eq_true rfl) (by decide) d_AbsC_init_1 ?_
  exact zgv hC hd hr hlk d_AbsC_init_4 ⟨rfl, rfl, rfl⟩ (Nat.le_of_ble_eq_true rfl) (Nat.le_of_ble_eq_true rfl)
set_option maxHeartbeats 4000000 in
theorem c_AbsL_init_2 (l : Launch) (G : Gt) (ad : Nat → Nat → Nat) (ow : Nat → Nat × Nat) (Z : Zt) (h13 : 50 ≤ xn Z 0 13) (he : xr Z 2 = some (.inr (8, [.int 0, .null, .int 0]))) : Met l y_AbsL_init w_AbsL_init ({ frames := 2, cells := 0, slots := 0, locals := 40 }) (zPc G ad ow Z [.ref (ad 13 2)]) (Qg G (fun ad9 _ Z9 v9 => (ads ad []) = ad9 ∧ (srs Z [(2, .inr (8, [.int 0, .null, .int 0]))]) = Z9 ∧ none = v9)) 0 0 (zA G) := by
  refine zopen (cc := b_AbsL_init) (maxL := 1) (ret := none) (by decide) rfl (Nat.le_of_ble_eq_true rfl) ?_
  intro p e s m below meth c ls hC hr hlk hnm hd hl
  have hC : Cx G p c m s _ "java/util/AbstractList" b_AbsL_init 1 := hC
  have hl : lv_has ls 1 [(0, .ref (ad 13 2))] := hl
  have hx := hC.1
  have hb := hC.2.1
  have hd : Dy G (ads ad []) ow (srs Z []) s s.heap [] := by rw [ads_nil, srs_nil]; exact hd
  obtain ⟨H, hH⟩ : ∃ q, q = s.heap := ⟨_, rfl⟩
  obtain ⟨locs, hlocs⟩ : ∃ q : List Loc, q = [] := ⟨_, rfl⟩
  rw [← hH, ← hlocs] at hd
  rw [← hH, ← hlocs]
  refine lv_aload_n hx hb d_AbsL_init_0 rfl (lv_at hl 0 rfl) ?_
  refine zbackg hd (zrunI (n := 0) (rest := []) hC hd (c_AbsC_init_2 l G (ads ad []) ow (srs Z []) (show 50 ≤ xn Z 0 13 from h13) he) q_41 q_42 q_2 q_43 rfl rfl rfl rfl ⟨by decide, by decide, by decide +kernel⟩ ⟨by decide, by decide⟩ rfl hl.1 (Nat.le_of_ble_eq_true rfl) d_AbsL_init_1 ⟨by decide, by decide⟩) rfl rfl (fun ad9 ow Z9 v9 H locs hq hd => ?_)
  obtain ⟨rfl, rfl, rfl⟩ := hq
  have hd := Dy.normC (A' := []) (L' := []) hd rfl rfl rfl rfl
  refine lv_aload_n hx hb d_AbsL_init_4 rfl (lv_at hl 0 rfl) ?_
  refine lv_iconst (v := 0) hx hb d_AbsL_init_5 (by decide) ?_
  refine zput (Z' := (sr (srs Z []) 2 (some (.inr (8, [.int 0, .null, .int 0]))))) (v := .int 0) (ad := (ads ad [])) (o := 13) (i := 2) hC hd (e_raw (ad := (ads ad [])) (Z := (srs Z [])) (e := .inr (8, [.int 0, .null, .int 0])) (show 2 < xn Z 0 13 by omega) he) rfl i_AL t_AL t_AL_ok n_AL 0 (by decide) q_49 (Or.inl rfl) rfl rfl rfl (Nat.le_of_ble_eq_true rfl) (u_raw (show 2 < xn Z 0 13 by omega)) d_AbsL_init_6 (fun H locs hd => ?_)
  have hd := Dy.norm0 (L' := [(2, .inr (8, [.int 0, .null, .int 0]))]) hd rfl
  exact zgv hC hd hr hlk d_AbsL_init_9 ⟨rfl, rfl, rfl⟩ (Nat.le_of_ble_eq_true rfl) (Nat.le_of_ble_eq_true rfl)
set_option maxHeartbeats 4000000 in
theorem c_AL_init_2 (l : Launch) (G : Gt) (ad : Nat → Nat → Nat) (ow : Nat → Nat × Nat) (Z : Zt) (h13 : 50 ≤ xn Z 0 13) (he : xr Z 2 = some (.inr (8, [.int 0, .null, .int 0]))) : Met l y_AL_init w_AL_init ({ frames := 3, cells := 0, slots := 0, locals := 60 }) (zPc G ad ow Z [.ref (ad 13 2)]) (Qg G (fun ad9 _ Z9 v9 => (ads ad []) = ad9 ∧ (srs Z [(2, .inr (8, [.int 0, .ref (ge G), .int 0]))]) = Z9 ∧ none = v9)) 0 0 (zA G) := by
  refine zopen (cc := b_AL_init) (maxL := 1) (ret := none) (by decide) rfl (Nat.le_of_ble_eq_true rfl) ?_
  intro p e s m below meth c ls hC hr hlk hnm hd hl
  have hC : Cx G p c m s _ "java/util/ArrayList" b_AL_init 1 := hC
  have hl : lv_has ls 1 [(0, .ref (ad 13 2))] := hl
  have hx := hC.1
  have hb := hC.2.1
  have hd : Dy G (ads ad []) ow (srs Z []) s s.heap [] := by rw [ads_nil, srs_nil]; exact hd
  obtain ⟨H, hH⟩ : ∃ q, q = s.heap := ⟨_, rfl⟩
  obtain ⟨locs, hlocs⟩ : ∃ q : List Loc, q = [] := ⟨_, rfl⟩
  rw [← hH, ← hlocs] at hd
  rw [← hH, ← hlocs]
  refine lv_aload_n hx hb d_AL_init_0 rfl (lv_at hl 0 rfl) ?_
  refine zbackg hd (zrunI (n := 0) (rest := []) hC hd (c_AbsL_init_2 l G (ads ad []) ow (srs Z []) (show 50 ≤ xn Z 0 13 from h13) he) q_38 q_39 q_3 q_40 rfl rfl rfl rfl ⟨by decide, by decide, by decide +kernel⟩ ⟨by decide, by decide⟩ rfl hl.1 (Nat.le_of_ble_eq_true rfl) d_AL_init_1 ⟨by decide, by decide⟩) rfl rfl (fun ad9 ow Z9 v9 H locs hq hd => ?_)
  obtain ⟨rfl, rfl, rfl⟩ := hq
  have hd := Dy.normC (A' := []) (L' := [(2, .inr (8, [.int 0, .null, .int 0]))]) hd rfl rfl rfl rfl
  refine lv_aload_n hx hb d_AL_init_4 rfl (lv_at hl 0 rfl) ?_
  refine zgetsE (ad := (ads ad [])) (rest := [.ref (ad 13 2)]) hC hd q_45 d_AL_init_5 ?_
  refine zput (Z' := (sr (srs Z [(2, .inr (8, [.int 0, .null, .int 0]))]) 2 (some (.inr (8, [.int 0, .ref (ge G), .int 0]))))) (v := .ref (ge G)) (ad := (ads ad [])) (o := 13) (i := 2) hC hd (e_raw (ad := (ads ad [])) (Z := (srs Z [(2, .inr (8, [.int 0, .null, .int 0]))])) (e := .inr (8, [.int 0, .null, .int 0])) (show 2 < xn Z 0 13 by omega) rfl) rfl i_AL t_AL t_AL_ok n_AL 1 (by decide) q_47 (Or.inl rfl) rfl rfl rfl (Nat.le_of_ble_eq_true rfl) (u_raw (show 2 < xn Z 0 13 by omega)) d_AL_init_8 (fun H locs hd => ?_)
  have hd := Dy.norm0 (L' := [(2, .inr (8, [.int 0, .ref (ge G), .int 0]))]) hd rfl
  exact zgv hC hd hr hlk d_AL_init_11 ⟨rfl, rfl, rfl⟩ (Nat.le_of_ble_eq_true rfl) (Nat.le_of_ble_eq_true rfl)
set_option maxHeartbeats 4000000 in
theorem c_AbsC_init_3 (l : Launch) (G : Gt) (ad : Nat → Nat → Nat) (ow : Nat → Nat × Nat) (Z : Zt) (h13 : 50 ≤ xn Z 0 13) (he : xr Z 3 = some (.inr (8, [.int 0, .null, .int 0]))) : Met l y_AbsC_init w_AbsC_init ({ frames := 1, cells := 0, slots := 0, locals := 20 }) (zPc G ad ow Z [.ref (ad 13 3)]) (Qg G (fun ad9 _ Z9 v9 => (ads ad []) = ad9 ∧ (srs Z []) = Z9 ∧ none = v9)) 0 0 (zA G) := by
  refine zopen (cc := b_AbsC_init) (maxL := 1) (ret := none) (by decide) rfl (Nat.le_of_ble_eq_true rfl) ?_
  intro p e s m below meth c ls hC hr hlk hnm hd hl
  have hC : Cx G p c m s _ "java/util/AbstractCollection" b_AbsC_init 1 := hC
  have hl : lv_has ls 1 [(0, .ref (ad 13 3))] := hl
  have hx := hC.1
  have hb := hC.2.1
  have hd : Dy G (ads ad []) ow (srs Z []) s s.heap [] := by rw [ads_nil, srs_nil]; exact hd
  obtain ⟨H, hH⟩ : ∃ q, q = s.heap := ⟨_, rfl⟩
  obtain ⟨locs, hlocs⟩ : ∃ q : List Loc, q = [] := ⟨_, rfl⟩
  rw [← hH, ← hlocs] at hd
  rw [← hH, ← hlocs]
  refine lv_aload_n hx hb d_AbsC_init_0 rfl (lv_at hl 0 rfl) ?_
  refine zobj hC hl.1 q_44 q_31 q_32 (Nat.le_of_ble_eq_true rfl) (by decide) d_AbsC_init_1 ?_
  exact zgv hC hd hr hlk d_AbsC_init_4 ⟨rfl, rfl, rfl⟩ (Nat.le_of_ble_eq_true rfl) (Nat.le_of_ble_eq_true rfl)
set_option maxHeartbeats 4000000 in
theorem c_AbsL_init_3 (l : Launch) (G : Gt) (ad : Nat → Nat → Nat) (ow : Nat → Nat × Nat) (Z : Zt) (h13 : 50 ≤ xn Z 0 13) (he : xr Z 3 = some (.inr (8, [.int 0, .null, .int 0]))) : Met l y_AbsL_init w_AbsL_init ({ frames := 2, cells := 0, slots := 0, locals := 40 }) (zPc G ad ow Z [.ref (ad 13 3)]) (Qg G (fun ad9 _ Z9 v9 => (ads ad []) = ad9 ∧ (srs Z [(3, .inr (8, [.int 0, .null, .int 0]))]) = Z9 ∧ none = v9)) 0 0 (zA G) := by
  refine zopen (cc := b_AbsL_init) (maxL := 1) (ret := none) (by decide) rfl (Nat.le_of_ble_eq_true rfl) ?_
  intro p e s m below meth c ls hC hr hlk hnm hd hl
  have hC : Cx G p c m s _ "java/util/AbstractList" b_AbsL_init 1 := hC
  have hl : lv_has ls 1 [(0, .ref (ad 13 3))] := hl
  have hx := hC.1
  have hb := hC.2.1
  have hd : Dy G (ads ad []) ow (srs Z []) s s.heap [] := by rw [ads_nil, srs_nil]; exact hd
  obtain ⟨H, hH⟩ : ∃ q, q = s.heap := ⟨_, rfl⟩
  obtain ⟨locs, hlocs⟩ : ∃ q : List Loc, q = [] := ⟨_, rfl⟩
  rw [← hH, ← hlocs] at hd
  rw [← hH, ← hlocs]
  refine lv_aload_n hx hb d_AbsL_init_0 rfl (lv_at hl 0 rfl) ?_
  refine zbackg hd (zrunI (n := 0) (rest := []) hC hd (c_AbsC_init_3 l G (ads ad []) ow (srs Z []) (show 50 ≤ xn Z 0 13 from h13) he) q_41 q_42 q_2 q_43 rfl rfl rfl rfl ⟨by decide, by decide, by decide +kernel⟩ ⟨by decide, by decide⟩ rfl hl.1 (Nat.le_of_ble_eq_true rfl) d_AbsL_init_1 ⟨by decide, by decide⟩) rfl rfl (fun ad9 ow Z9 v9 H locs hq hd => ?_)
  obtain ⟨rfl, rfl, rfl⟩ := hq
  have hd := Dy.normC (A' := []) (L' := []) hd rfl rfl rfl rfl
  refine lv_aload_n hx hb d_AbsL_init_4 rfl (lv_at hl 0 rfl) ?_
  refine lv_iconst (v := 0) hx hb d_AbsL_init_5 (by decide) ?_
  refine zput (Z' := (sr (srs Z []) 3 (some (.inr (8, [.int 0, .null, .int 0]))))) (v := .int 0) (ad := (ads ad [])) (o := 13) (i := 3) hC hd (e_raw (ad := (ads ad [])) (Z := (srs Z [])) (e := .inr (8, [.int 0, .null, .int 0])) (show 3 < xn Z 0 13 by omega) he) rfl i_AL t_AL t_AL_ok n_AL 0 (by decide) q_49 (Or.inl rfl) rfl rfl rfl (Nat.le_of_ble_eq_true rfl) (u_raw (show 3 < xn Z 0 13 by omega)) d_AbsL_init_6 (fun H locs hd => ?_)
  have hd := Dy.norm0 (L' := [(3, .inr (8, [.int 0, .null, .int 0]))]) hd rfl
  exact zgv hC hd hr hlk d_AbsL_init_9 ⟨rfl, rfl, rfl⟩ (Nat.le_of_ble_eq_true rfl) (Nat.le_of_ble_eq_true rfl)
set_option maxHeartbeats 4000000 in
theorem c_AL_init_3 (l : Launch) (G : Gt) (ad : Nat → Nat → Nat) (ow : Nat → Nat × Nat) (Z : Zt) (h13 : 50 ≤ xn Z 0 13) (he : xr Z 3 = some (.inr (8, [.int 0, .null, .int 0]))) : Met l y_AL_init w_AL_init ({ frames := 3, cells := 0, slots := 0, locals := 60 }) (zPc G ad ow Z [.ref (ad 13 3)]) (Qg G (fun ad9 _ Z9 v9 => (ads ad []) = ad9 ∧ (srs Z [(3, .inr (8, [.int 0, .ref (ge G), .int 0]))]) = Z9 ∧ none = v9)) 0 0 (zA G) := by
  refine zopen (cc := b_AL_init) (maxL := 1) (ret := none) (by decide) rfl (Nat.le_of_ble_eq_true rfl) ?_
  intro p e s m below meth c ls hC hr hlk hnm hd hl
  have hC : Cx G p c m s _ "java/util/ArrayList" b_AL_init 1 := hC
  have hl : lv_has ls 1 [(0, .ref (ad 13 3))] := hl
  have hx := hC.1
  have hb := hC.2.1
  have hd : Dy G (ads ad []) ow (srs Z []) s s.heap [] := by rw [ads_nil, srs_nil]; exact hd
  obtain ⟨H, hH⟩ : ∃ q, q = s.heap := ⟨_, rfl⟩
  obtain ⟨locs, hlocs⟩ : ∃ q : List Loc, q = [] := ⟨_, rfl⟩
  rw [← hH, ← hlocs] at hd
  rw [← hH, ← hlocs]
  refine lv_aload_n hx hb d_AL_init_0 rfl (lv_at hl 0 rfl) ?_
  refine zbackg hd (zrunI (n := 0) (rest := []) hC hd (c_AbsL_init_3 l G (ads ad []) ow (srs Z []) (show 50 ≤ xn Z 0 13 from h13) he) q_38 q_39 q_3 q_40 rfl rfl rfl rfl ⟨by decide, by decide, by decide +kernel⟩ ⟨by decide, by decide⟩ rfl hl.1 (Nat.le_of_ble_eq_true rfl) d_AL_init_1 ⟨by decide, by decide⟩) rfl rfl (fun ad9 ow Z9 v9 H locs hq hd => ?_)
  obtain ⟨rfl, rfl, rfl⟩ := hq
  have hd := Dy.normC (A' := []) (L' := [(3, .inr (8, [.int 0, .null, .int 0]))]) hd rfl rfl rfl rfl
  refine lv_aload_n hx hb d_AL_init_4 rfl (lv_at hl 0 rfl) ?_
  refine zgetsE (ad := (ads ad [])) (rest := [.ref (ad 13 3)]) hC hd q_45 d_AL_init_5 ?_
  refine zput (Z' := (sr (srs Z [(3, .inr (8, [.int 0, .null, .int 0]))]) 3 (some (.inr (8, [.int 0, .ref (ge G), .int 0]))))) (v := .ref (ge G)) (ad := (ads ad [])) (o := 13) (i := 3) hC hd (e_raw (ad := (ads ad [])) (Z := (srs Z [(3, .inr (8, [.int 0, .null, .int 0]))])) (e := .inr (8, [.int 0, .null, .int 0])) (show 3 < xn Z 0 13 by omega) rfl) rfl i_AL t_AL t_AL_ok n_AL 1 (by decide) q_47 (Or.inl rfl) rfl rfl rfl (Nat.le_of_ble_eq_true rfl) (u_raw (show 3 < xn Z 0 13 by omega)) d_AL_init_8 (fun H locs hd => ?_)
  have hd := Dy.norm0 (L' := [(3, .inr (8, [.int 0, .ref (ge G), .int 0]))]) hd rfl
  exact zgv hC hd hr hlk d_AL_init_11 ⟨rfl, rfl, rfl⟩ (Nat.le_of_ble_eq_true rfl) (Nat.le_of_ble_eq_true rfl)
set_option maxHeartbeats 4000000 in
theorem c_Fun_init (l : Launch) (G : Gt) (ad : Nat → Nat → Nat) (ow : Nat → Nat × Nat) (Z : Zt) (h13 : 50 ≤ xn Z 0 13) : Met l y_Fun_init w_Fun_init ({ frames := 1, cells := 0, slots := 0, locals := 20 }) (zPc G ad ow Z [.ref (ad 13 1)]) (Qg G (fun ad9 _ Z9 v9 => (ads ad []) = ad9 ∧ (srs Z []) = Z9 ∧ none = v9)) 0 0 (zA G) := by
  refine zopen (cc := b_Fun_init) (maxL := 1) (ret := none) (by decide) rfl (Nat.le_of_ble_eq_true rfl) ?_
  intro p e s m below meth c ls hC hr hlk hnm hd hl
  have hC : Cx G p c m s _ "KeyGraph$Function" b_Fun_init 1 := hC
  have hl : lv_has ls 1 [(0, .ref (ad 13 1))] := hl
  have hx := hC.1
  have hb := hC.2.1
  have hd : Dy G (ads ad []) ow (srs Z []) s s.heap [] := by rw [ads_nil, srs_nil]; exact hd
  obtain ⟨H, hH⟩ : ∃ q, q = s.heap := ⟨_, rfl⟩
  obtain ⟨locs, hlocs⟩ : ∃ q : List Loc, q = [] := ⟨_, rfl⟩
  rw [← hH, ← hlocs] at hd
  rw [← hH, ← hlocs]
  refine lv_aload_n hx hb d_Fun_init_0 rfl (lv_at hl 0 rfl) ?_
  refine zobj hC hl.1 q_250 q_31 q_32 (Nat.le_of_ble_eq_true rfl) (by decide) d_Fun_init_1 ?_
  exact zgv hC hd hr hlk d_Fun_init_4 ⟨rfl, rfl, rfl⟩ (Nat.le_of_ble_eq_true rfl) (Nat.le_of_ble_eq_true rfl)
set_option maxHeartbeats 4000000 in
theorem c_First_init (l : Launch) (G : Gt) (ad : Nat → Nat → Nat) (ow : Nat → Nat × Nat) (Z : Zt) (h13 : 50 ≤ xn Z 0 13) : Met l y_First_init w_First_init ({ frames := 2, cells := 0, slots := 0, locals := 40 }) (zPc G ad ow Z [.ref (ad 13 1)]) (Qg G (fun ad9 _ Z9 v9 => (ads ad []) = ad9 ∧ (srs Z []) = Z9 ∧ none = v9)) 0 0 (zA G) := by
  refine zopen (cc := b_First_init) (maxL := 1) (ret := none) (by decide) rfl (Nat.le_of_ble_eq_true rfl) ?_
  intro p e s m below meth c ls hC hr hlk hnm hd hl
  have hC : Cx G p c m s _ "KeyGraph$First" b_First_init 1 := hC
  have hl : lv_has ls 1 [(0, .ref (ad 13 1))] := hl
  have hx := hC.1
  have hb := hC.2.1
  have hd : Dy G (ads ad []) ow (srs Z []) s s.heap [] := by rw [ads_nil, srs_nil]; exact hd
  obtain ⟨H, hH⟩ : ∃ q, q = s.heap := ⟨_, rfl⟩
  obtain ⟨locs, hlocs⟩ : ∃ q : List Loc, q = [] := ⟨_, rfl⟩
  rw [← hH, ← hlocs] at hd
  rw [← hH, ← hlocs]
  refine lv_aload_n hx hb d_First_init_0 rfl (lv_at hl 0 rfl) ?_
  refine zbackg hd (zrunIN (host := "KeyGraph") (n := 0) (rest := []) hC hd (c_Fun_init l G (ads ad []) ow (srs Z []) (show 50 ≤ xn Z 0 13 from h13)) z_298 q_248 q_12 q_249 rfl rfl rfl rfl ⟨by decide, by decide, by decide +kernel⟩ ⟨by decide, by decide⟩ rfl hl.1 (Nat.le_of_ble_eq_true rfl) d_First_init_1 ⟨by decide, by decide⟩) rfl rfl (fun ad9 ow Z9 v9 H locs hq hd => ?_)
  obtain ⟨rfl, rfl, rfl⟩ := hq
  have hd := Dy.normC (A' := []) (L' := []) hd rfl rfl rfl rfl
  exact zgv hC hd hr hlk d_First_init_4 ⟨rfl, rfl, rfl⟩ (Nat.le_of_ble_eq_true rfl) (Nat.le_of_ble_eq_true rfl)
set_option maxHeartbeats 4000000 in
theorem c_Choice_init (l : Launch) (G : Gt) (ad : Nat → Nat → Nat) (ow : Nat → Nat × Nat) (Z : Zt) (h13 : 50 ≤ xn Z 0 13) : Met l y_Choice_init w_Choice_init ({ frames := 2, cells := 0, slots := 0, locals := 40 }) (zPc G ad ow Z [.ref (ad 13 1)]) (Qg G (fun ad9 _ Z9 v9 => (ads ad []) = ad9 ∧ (srs Z []) = Z9 ∧ none = v9)) 0 0 (zA G) := by
  refine zopen (cc := b_Choice_init) (maxL := 1) (ret := none) (by decide) rfl (Nat.le_of_ble_eq_true rfl) ?_
  intro p e s m below meth c ls hC hr hlk hnm hd hl
  have hC : Cx G p c m s _ "KeyGraph$Choice" b_Choice_init 1 := hC
  have hl : lv_has ls 1 [(0, .ref (ad 13 1))] := hl
  have hx := hC.1
  have hb := hC.2.1
  have hd : Dy G (ads ad []) ow (srs Z []) s s.heap [] := by rw [ads_nil, srs_nil]; exact hd
  obtain ⟨H, hH⟩ : ∃ q, q = s.heap := ⟨_, rfl⟩
  obtain ⟨locs, hlocs⟩ : ∃ q : List Loc, q = [] := ⟨_, rfl⟩
  rw [← hH, ← hlocs] at hd
  rw [← hH, ← hlocs]
  refine lv_aload_n hx hb d_Choice_init_0 rfl (lv_at hl 0 rfl) ?_
  refine zbackg hd (zrunIN (host := "KeyGraph") (n := 0) (rest := []) hC hd (c_Fun_init l G (ads ad []) ow (srs Z []) (show 50 ≤ xn Z 0 13 from h13)) z_309 q_248 q_12 q_249 rfl rfl rfl rfl ⟨by decide, by decide, by decide +kernel⟩ ⟨by decide, by decide⟩ rfl hl.1 (Nat.le_of_ble_eq_true rfl) d_Choice_init_1 ⟨by decide, by decide⟩) rfl rfl (fun ad9 ow Z9 v9 H locs hq hd => ?_)
  obtain ⟨rfl, rfl, rfl⟩ := hq
  have hd := Dy.normC (A' := []) (L' := []) hd rfl rfl rfl rfl
  exact zgv hC hd hr hlk d_Choice_init_4 ⟨rfl, rfl, rfl⟩ (Nat.le_of_ble_eq_true rfl) (Nat.le_of_ble_eq_true rfl)
set_option maxHeartbeats 4000000 in
theorem c_Quot_init (l : Launch) (G : Gt) (ad : Nat → Nat → Nat) (ow : Nat → Nat × Nat) (Z : Zt) (h13 : 50 ≤ xn Z 0 13) : Met l y_Quot_init w_Quot_init ({ frames := 2, cells := 0, slots := 0, locals := 40 }) (zPc G ad ow Z [.ref (ad 13 1)]) (Qg G (fun ad9 _ Z9 v9 => (ads ad []) = ad9 ∧ (srs Z []) = Z9 ∧ none = v9)) 0 0 (zA G) := by
  refine zopen (cc := b_Quot_init) (maxL := 1) (ret := none) (by decide) rfl (Nat.le_of_ble_eq_true rfl) ?_
  intro p e s m below meth c ls hC hr hlk hnm hd hl
  have hC : Cx G p c m s _ "KeyGraph$Quotient" b_Quot_init 1 := hC
  have hl : lv_has ls 1 [(0, .ref (ad 13 1))] := hl
  have hx := hC.1
  have hb := hC.2.1
  have hd : Dy G (ads ad []) ow (srs Z []) s s.heap [] := by rw [ads_nil, srs_nil]; exact hd
  obtain ⟨H, hH⟩ : ∃ q, q = s.heap := ⟨_, rfl⟩
  obtain ⟨locs, hlocs⟩ : ∃ q : List Loc, q = [] := ⟨_, rfl⟩
  rw [← hH, ← hlocs] at hd
  rw [← hH, ← hlocs]
  refine lv_aload_n hx hb d_Quot_init_0 rfl (lv_at hl 0 rfl) ?_
  refine zbackg hd (zrunIN (host := "KeyGraph") (n := 0) (rest := []) hC hd (c_Fun_init l G (ads ad []) ow (srs Z []) (show 50 ≤ xn Z 0 13 from h13)) z_323 q_248 q_12 q_249 rfl rfl rfl rfl ⟨by decide, by decide, by decide +kernel⟩ ⟨by decide, by decide⟩ rfl hl.1 (Nat.le_of_ble_eq_true rfl) d_Quot_init_1 ⟨by decide, by decide⟩) rfl rfl (fun ad9 ow Z9 v9 H locs hq hd => ?_)
  obtain ⟨rfl, rfl, rfl⟩ := hq
  have hd := Dy.normC (A' := []) (L' := []) hd rfl rfl rfl rfl
  exact zgv hC hd hr hlk d_Quot_init_4 ⟨rfl, rfl, rfl⟩ (Nat.le_of_ble_eq_true rfl) (Nat.le_of_ble_eq_true rfl)
set_option maxHeartbeats 4000000 in
theorem c_Great_init (l : Launch) (G : Gt) (ad : Nat → Nat → Nat) (ow : Nat → Nat × Nat) (Z : Zt) (h13 : 50 ≤ xn Z 0 13) : Met l y_Great_init w_Great_init ({ frames := 2, cells := 0, slots := 0, locals := 40 }) (zPc G ad ow Z [.ref (ad 13 1)]) (Qg G (fun ad9 _ Z9 v9 => (ads ad []) = ad9 ∧ (srs Z []) = Z9 ∧ none = v9)) 0 0 (zA G) := by
  refine zopen (cc := b_Great_init) (maxL := 1) (ret := none) (by decide) rfl (Nat.le_of_ble_eq_true rfl) ?_
  intro p e s m below meth c ls hC hr hlk hnm hd hl
  have hC : Cx G p c m s _ "KeyGraph$Greatest" b_Great_init 1 := hC
  have hl : lv_has ls 1 [(0, .ref (ad 13 1))] := hl
  have hx := hC.1
  have hb := hC.2.1
  have hd : Dy G (ads ad []) ow (srs Z []) s s.heap [] := by rw [ads_nil, srs_nil]; exact hd
  obtain ⟨H, hH⟩ : ∃ q, q = s.heap := ⟨_, rfl⟩
  obtain ⟨locs, hlocs⟩ : ∃ q : List Loc, q = [] := ⟨_, rfl⟩
  rw [← hH, ← hlocs] at hd
  rw [← hH, ← hlocs]
  refine lv_aload_n hx hb d_Great_init_0 rfl (lv_at hl 0 rfl) ?_
  refine zbackg hd (zrunIN (host := "KeyGraph") (n := 0) (rest := []) hC hd (c_Fun_init l G (ads ad []) ow (srs Z []) (show 50 ≤ xn Z 0 13 from h13)) z_334 q_248 q_12 q_249 rfl rfl rfl rfl ⟨by decide, by decide, by decide +kernel⟩ ⟨by decide, by decide⟩ rfl hl.1 (Nat.le_of_ble_eq_true rfl) d_Great_init_1 ⟨by decide, by decide⟩) rfl rfl (fun ad9 ow Z9 v9 H locs hq hd => ?_)
  obtain ⟨rfl, rfl, rfl⟩ := hq
  have hd := Dy.normC (A' := []) (L' := []) hd rfl rfl rfl rfl
  exact zgv hC hd hr hlk d_Great_init_4 ⟨rfl, rfl, rfl⟩ (Nat.le_of_ble_eq_true rfl) (Nat.le_of_ble_eq_true rfl)
set_option maxHeartbeats 4000000 in
theorem c_Sum_init (l : Launch) (G : Gt) (ad : Nat → Nat → Nat) (ow : Nat → Nat × Nat) (Z : Zt) (h13 : 50 ≤ xn Z 0 13) (he : xr Z 1 = some (.inr (2, [.int 0, .int 0, .long 0, .int 0, .int 0]))) (b : Int32) (hb01 : b = 0 ∨ b = 1) : Met l y_Sum_init w_Sum_init ({ frames := 2, cells := 0, slots := 0, locals := 40 }) (zPc G ad ow Z [.ref (ad 13 1), .int b]) (Qg G (fun ad9 _ Z9 v9 => (ads ad []) = ad9 ∧ (srs Z [(1, .inr (2, [.int 0, .int 0, .long 0, .int 0, .int b]))]) = Z9 ∧ none = v9)) 0 0 (zA G) := by
  refine zopen (cc := b_Sum_init) (maxL := 2) (ret := none) (by decide) rfl (Nat.le_of_ble_eq_true rfl) ?_
  intro p e s m below meth c ls hC hr hlk hnm hd hl
  have hC : Cx G p c m s _ "KeyGraph$Sum" b_Sum_init 2 := hC
  have hl : lv_has ls 2 [(0, .ref (ad 13 1)), (1, .int b)] := hl
  have hx := hC.1
  have hb := hC.2.1
  have hd : Dy G (ads ad []) ow (srs Z []) s s.heap [] := by rw [ads_nil, srs_nil]; exact hd
  obtain ⟨H, hH⟩ : ∃ q, q = s.heap := ⟨_, rfl⟩
  obtain ⟨locs, hlocs⟩ : ∃ q : List Loc, q = [] := ⟨_, rfl⟩
  rw [← hH, ← hlocs] at hd
  rw [← hH, ← hlocs]
  refine lv_aload_n hx hb d_Sum_init_0 rfl (lv_at hl 0 rfl) ?_
  refine zbackg hd (zrunIN (host := "KeyGraph") (n := 0) (rest := []) hC hd (c_Fun_init l G (ads ad []) ow (srs Z []) (show 50 ≤ xn Z 0 13 from h13)) z_247 q_248 q_12 q_249 rfl rfl rfl rfl ⟨by decide, by decide, by decide +kernel⟩ ⟨by decide, by decide⟩ rfl hl.1 (Nat.le_of_ble_eq_true rfl) d_Sum_init_1 ⟨by decide, by decide⟩) rfl rfl (fun ad9 ow Z9 v9 H locs hq hd => ?_)
  obtain ⟨rfl, rfl, rfl⟩ := hq
  have hd := Dy.normC (A' := []) (L' := []) hd rfl rfl rfl rfl
  refine lv_aload_n hx hb d_Sum_init_4 rfl (lv_at hl 0 rfl) ?_
  refine lv_iload_n hx hb d_Sum_init_5 rfl (lv_at hl 1 rfl) ?_
  refine zputF (Z' := (sr (srs Z []) 1 (some (.inr (2, [.int 0, .int 0, .long 0, .int 0, .int b]))))) (v := .int b) (ad := (ads ad [])) (o := 13) (i := 1) hC hnm hd (e_raw (ad := (ads ad [])) (Z := (srs Z [])) (e := .inr (2, [.int 0, .int 0, .long 0, .int 0, .int 0])) (show 1 < xn Z 0 13 by omega) he) rfl i_Sum t_Sum t_Sum_ok n_Sum 4 (by decide) q_251 rfl rfl (zbool hb01) (zboolf hb01) (Nat.le_of_ble_eq_true rfl) (u_raw (show 1 < xn Z 0 13 by omega)) d_Sum_init_6 (fun H locs hd => ?_)
  have hd := Dy.norm0 (L' := [(1, .inr (2, [.int 0, .int 0, .long 0, .int 0, .int b]))]) hd rfl
  exact zgv hC hd hr hlk d_Sum_init_9 ⟨rfl, rfl, rfl⟩ (Nat.le_of_ble_eq_true rfl) (Nat.le_of_ble_eq_true rfl)
set_option maxHeartbeats 4000000 in
theorem c_Pile_init_10 (l : Launch) (G : Gt) (ad : Nat → Nat → Nat) (ow : Nat → Nat × Nat) (Z : Zt) (h13 : 50 ≤ xn Z 0 13) (he : xr Z 10 = some (.inr (7, [.null, .int 0]))) : Met l y_Pile_init w_Pile_init ({ frames := 1, cells := 1, slots := 40, locals := 20 }) (zPc G ad ow Z [.ref (ad 13 10)]) (Qg G (fun ad9 _ Z9 v9 => ∃ a11, (ads ad [(11, a11)]) = ad9 ∧ (srs Z [(11, rfA (gK G) 40 (fun _ => none)), (10, .inr (7, [.ref a11, .int 0]))]) = Z9 ∧ none = v9)) 1 40 (zA G) := by
  refine zopen (cc := b_Pile_init) (maxL := 1) (ret := none) (by decide) rfl (Nat.le_of_ble_eq_true rfl) ?_
  intro p e s m below meth c ls hC hr hlk hnm hd hl
  have hC : Cx G p c m s _ "KeyGraph$Pile" b_Pile_init 1 := hC
  have hl : lv_has ls 1 [(0, .ref (ad 13 10))] := hl
  have hx := hC.1
  have hb := hC.2.1
  have hd : Dy G (ads ad []) ow (srs Z []) s s.heap [] := by rw [ads_nil, srs_nil]; exact hd
  obtain ⟨H, hH⟩ : ∃ q, q = s.heap := ⟨_, rfl⟩
  obtain ⟨locs, hlocs⟩ : ∃ q : List Loc, q = [] := ⟨_, rfl⟩
  rw [← hH, ← hlocs] at hd
  rw [← hH, ← hlocs]
  refine lv_aload_n hx hb d_Pile_init_0 rfl (lv_at hl 0 rfl) ?_
  refine zobj hC hl.1 q_68 q_31 q_32 (Nat.le_of_ble_eq_true rfl) (by decide) d_Pile_init_1 ?_
  refine lv_aload_n hx hb d_Pile_init_4 rfl (lv_at hl 0 rfl) ?_
  refine lv_bipush (v := 40) hx hb d_Pile_init_5 (by decide) ?_
  refine znewK (ad := (ads ad [])) (rest := [.ref (ad 13 10)]) hC hd 40 q_69 (by decide) (by decide) (Nat.le_of_ble_eq_true rfl) 11 (show 11 < xn Z 0 13 by omega) (Nat.le_of_ble_eq_true rfl) (Nat.le_of_ble_eq_true rfl) d_Pile_init_7 (fun a11 ow H hd => ?_)
  have hd := Dy.norm (A' := [(11, a11)]) (L' := [(11, rfA (gK G) 40 (fun _ => none))]) hd rfl rfl
  refine zputF (Z' := (sr (srs Z [(11, rfA (gK G) 40 (fun _ => none))]) 10 (some (.inr (7, [.ref a11, .int 0]))))) (v := .ref a11) (ad := (ads ad [(11, a11)])) (o := 13) (i := 10) hC hnm hd (e_raw (ad := (ads ad [(11, a11)])) (Z := (srs Z [(11, rfA (gK G) 40 (fun _ => none))])) (e := .inr (7, [.null, .int 0])) (show 10 < xn Z 0 13 by omega) he) rfl i_Pile t_Pile t_Pile_ok n_Pile 0 (by decide) q_71 rfl rfl rfl rfl (Nat.le_of_ble_eq_true rfl) (u_raw (show 10 < xn Z 0 13 by omega)) d_Pile_init_10 (fun H locs hd => ?_)
  have hd := Dy.norm0 (L' := [(11, rfA (gK G) 40 (fun _ => none)), (10, .inr (7, [.ref a11, .int 0]))]) hd rfl
  exact zgv hC hd hr hlk d_Pile_init_13 ⟨a11, rfl, rfl, rfl⟩ (Nat.le_of_ble_eq_true rfl) (Nat.le_of_ble_eq_true rfl)
set_option maxHeartbeats 4000000 in
theorem c_Pile_init_12 (l : Launch) (G : Gt) (ad : Nat → Nat → Nat) (ow : Nat → Nat × Nat) (Z : Zt) (h13 : 50 ≤ xn Z 0 13) (he : xr Z 12 = some (.inr (7, [.null, .int 0]))) : Met l y_Pile_init w_Pile_init ({ frames := 1, cells := 1, slots := 40, locals := 20 }) (zPc G ad ow Z [.ref (ad 13 12)]) (Qg G (fun ad9 _ Z9 v9 => ∃ a13, (ads ad [(13, a13)]) = ad9 ∧ (srs Z [(13, rfA (gK G) 40 (fun _ => none)), (12, .inr (7, [.ref a13, .int 0]))]) = Z9 ∧ none = v9)) 1 40 (zA G) := by
  refine zopen (cc := b_Pile_init) (maxL := 1) (ret := none) (by decide) rfl (Nat.le_of_ble_eq_true rfl) ?_
  intro p e s m below meth c ls hC hr hlk hnm hd hl
  have hC : Cx G p c m s _ "KeyGraph$Pile" b_Pile_init 1 := hC
  have hl : lv_has ls 1 [(0, .ref (ad 13 12))] := hl
  have hx := hC.1
  have hb := hC.2.1
  have hd : Dy G (ads ad []) ow (srs Z []) s s.heap [] := by rw [ads_nil, srs_nil]; exact hd
  obtain ⟨H, hH⟩ : ∃ q, q = s.heap := ⟨_, rfl⟩
  obtain ⟨locs, hlocs⟩ : ∃ q : List Loc, q = [] := ⟨_, rfl⟩
  rw [← hH, ← hlocs] at hd
  rw [← hH, ← hlocs]
  refine lv_aload_n hx hb d_Pile_init_0 rfl (lv_at hl 0 rfl) ?_
  refine zobj hC hl.1 q_68 q_31 q_32 (Nat.le_of_ble_eq_true rfl) (by decide) d_Pile_init_1 ?_
  refine lv_aload_n hx hb d_Pile_init_4 rfl (lv_at hl 0 rfl) ?_
  refine lv_bipush (v := 40) hx hb d_Pile_init_5 (by decide) ?_
  refine znewK (ad := (ads ad [])) (rest := [.ref (ad 13 12)]) hC hd 40 q_69 (by decide) (by decide) (Nat.le_of_ble_eq_true rfl) 13 (show 13 < xn Z 0 13 by omega) (Nat.le_of_ble_eq_true rfl) (Nat.le_of_ble_eq_true rfl) d_Pile_init_7 (fun a13 ow H hd => ?_)
  have hd := Dy.norm (A' := [(13, a13)]) (L' := [(13, rfA (gK G) 40 (fun _ => none))]) hd rfl rfl
  refine zputF (Z' := (sr (srs Z [(13, rfA (gK G) 40 (fun _ => none))]) 12 (some (.inr (7, [.ref a13, .int 0]))))) (v := .ref a13) (ad := (ads ad [(13, a13)])) (o := 13) (i := 12) hC hnm hd (e_raw (ad := (ads ad [(13, a13)])) (Z := (srs Z [(13, rfA (gK G) 40 (fun _ => none))])) (e := .inr (7, [.null, .int 0])) (show 12 < xn Z 0 13 by omega) he) rfl i_Pile t_Pile t_Pile_ok n_Pile 0 (by decide) q_71 rfl rfl rfl rfl (Nat.le_of_ble_eq_true rfl) (u_raw (show 12 < xn Z 0 13 by omega)) d_Pile_init_10 (fun H locs hd => ?_)
  have hd := Dy.norm0 (L' := [(13, rfA (gK G) 40 (fun _ => none)), (12, .inr (7, [.ref a13, .int 0]))]) hd rfl
  exact zgv hC hd hr hlk d_Pile_init_13 ⟨a13, rfl, rfl, rfl⟩ (Nat.le_of_ble_eq_true rfl) (Nat.le_of_ble_eq_true rfl)
set_option maxHeartbeats 4000000 in
theorem c_Pile_init_14 (l : Launch) (G : Gt) (ad : Nat → Nat → Nat) (ow : Nat → Nat × Nat) (Z : Zt) (h13 : 50 ≤ xn Z 0 13) (he : xr Z 14 = some (.inr (7, [.null, .int 0]))) : Met l y_Pile_init w_Pile_init ({ frames := 1, cells := 1, slots := 40, locals := 20 }) (zPc G ad ow Z [.ref (ad 13 14)]) (Qg G (fun ad9 _ Z9 v9 => ∃ a15, (ads ad [(15, a15)]) = ad9 ∧ (srs Z [(15, rfA (gK G) 40 (fun _ => none)), (14, .inr (7, [.ref a15, .int 0]))]) = Z9 ∧ none = v9)) 1 40 (zA G) := by
  refine zopen (cc := b_Pile_init) (maxL := 1) (ret := none) (by decide) rfl (Nat.le_of_ble_eq_true rfl) ?_
  intro p e s m below meth c ls hC hr hlk hnm hd hl
  have hC : Cx G p c m s _ "KeyGraph$Pile" b_Pile_init 1 := hC
  have hl : lv_has ls 1 [(0, .ref (ad 13 14))] := hl
  have hx := hC.1
  have hb := hC.2.1
  have hd : Dy G (ads ad []) ow (srs Z []) s s.heap [] := by rw [ads_nil, srs_nil]; exact hd
  obtain ⟨H, hH⟩ : ∃ q, q = s.heap := ⟨_, rfl⟩
  obtain ⟨locs, hlocs⟩ : ∃ q : List Loc, q = [] := ⟨_, rfl⟩
  rw [← hH, ← hlocs] at hd
  rw [← hH, ← hlocs]
  refine lv_aload_n hx hb d_Pile_init_0 rfl (lv_at hl 0 rfl) ?_
  refine zobj hC hl.1 q_68 q_31 q_32 (Nat.le_of_ble_eq_true rfl) (by decide) d_Pile_init_1 ?_
  refine lv_aload_n hx hb d_Pile_init_4 rfl (lv_at hl 0 rfl) ?_
  refine lv_bipush (v := 40) hx hb d_Pile_init_5 (by decide) ?_
  refine znewK (ad := (ads ad [])) (rest := [.ref (ad 13 14)]) hC hd 40 q_69 (by decide) (by decide) (Nat.le_of_ble_eq_true rfl) 15 (show 15 < xn Z 0 13 by omega) (Nat.le_of_ble_eq_true rfl) (Nat.le_of_ble_eq_true rfl) d_Pile_init_7 (fun a15 ow H hd => ?_)
  have hd := Dy.norm (A' := [(15, a15)]) (L' := [(15, rfA (gK G) 40 (fun _ => none))]) hd rfl rfl
  refine zputF (Z' := (sr (srs Z [(15, rfA (gK G) 40 (fun _ => none))]) 14 (some (.inr (7, [.ref a15, .int 0]))))) (v := .ref a15) (ad := (ads ad [(15, a15)])) (o := 13) (i := 14) hC hnm hd (e_raw (ad := (ads ad [(15, a15)])) (Z := (srs Z [(15, rfA (gK G) 40 (fun _ => none))])) (e := .inr (7, [.null, .int 0])) (show 14 < xn Z 0 13 by omega) he) rfl i_Pile t_Pile t_Pile_ok n_Pile 0 (by decide) q_71 rfl rfl rfl rfl (Nat.le_of_ble_eq_true rfl) (u_raw (show 14 < xn Z 0 13 by omega)) d_Pile_init_10 (fun H locs hd => ?_)
  have hd := Dy.norm0 (L' := [(15, rfA (gK G) 40 (fun _ => none)), (14, .inr (7, [.ref a15, .int 0]))]) hd rfl
  exact zgv hC hd hr hlk d_Pile_init_13 ⟨a15, rfl, rfl, rfl⟩ (Nat.le_of_ble_eq_true rfl) (Nat.le_of_ble_eq_true rfl)
set_option maxHeartbeats 4000000 in
theorem c_Pile_init_16 (l : Launch) (G : Gt) (ad : Nat → Nat → Nat) (ow : Nat → Nat × Nat) (Z : Zt) (h13 : 50 ≤ xn Z 0 13) (he : xr Z 16 = some (.inr (7, [.null, .int 0]))) : Met l y_Pile_init w_Pile_init ({ frames := 1, cells := 1, slots := 40, locals := 20 }) (zPc G ad ow Z [.ref (ad 13 16)]) (Qg G (fun ad9 _ Z9 v9 => ∃ a17, (ads ad [(17, a17)]) = ad9 ∧ (srs Z [(17, rfA (gK G) 40 (fun _ => none)), (16, .inr (7, [.ref a17, .int 0]))]) = Z9 ∧ none = v9)) 1 40 (zA G) := by
  refine zopen (cc := b_Pile_init) (maxL := 1) (ret := none) (by decide) rfl (Nat.le_of_ble_eq_true rfl) ?_
  intro p e s m below meth c ls hC hr hlk hnm hd hl
  have hC : Cx G p c m s _ "KeyGraph$Pile" b_Pile_init 1 := hC
  have hl : lv_has ls 1 [(0, .ref (ad 13 16))] := hl
  have hx := hC.1
  have hb := hC.2.1
  have hd : Dy G (ads ad []) ow (srs Z []) s s.heap [] := by rw [ads_nil, srs_nil]; exact hd
  obtain ⟨H, hH⟩ : ∃ q, q = s.heap := ⟨_, rfl⟩
  obtain ⟨locs, hlocs⟩ : ∃ q : List Loc, q = [] := ⟨_, rfl⟩
  rw [← hH, ← hlocs] at hd
  rw [← hH, ← hlocs]
  refine lv_aload_n hx hb d_Pile_init_0 rfl (lv_at hl 0 rfl) ?_
  refine zobj hC hl.1 q_68 q_31 q_32 (Nat.le_of_ble_eq_true rfl) (by decide) d_Pile_init_1 ?_
  refine lv_aload_n hx hb d_Pile_init_4 rfl (lv_at hl 0 rfl) ?_
  refine lv_bipush (v := 40) hx hb d_Pile_init_5 (by decide) ?_
  refine znewK (ad := (ads ad [])) (rest := [.ref (ad 13 16)]) hC hd 40 q_69 (by decide) (by decide) (Nat.le_of_ble_eq_true rfl) 17 (show 17 < xn Z 0 13 by omega) (Nat.le_of_ble_eq_true rfl) (Nat.le_of_ble_eq_true rfl) d_Pile_init_7 (fun a17 ow H hd => ?_)
  have hd := Dy.norm (A' := [(17, a17)]) (L' := [(17, rfA (gK G) 40 (fun _ => none))]) hd rfl rfl
  refine zputF (Z' := (sr (srs Z [(17, rfA (gK G) 40 (fun _ => none))]) 16 (some (.inr (7, [.ref a17, .int 0]))))) (v := .ref a17) (ad := (ads ad [(17, a17)])) (o := 13) (i := 16) hC hnm hd (e_raw (ad := (ads ad [(17, a17)])) (Z := (srs Z [(17, rfA (gK G) 40 (fun _ => none))])) (e := .inr (7, [.null, .int 0])) (show 16 < xn Z 0 13 by omega) he) rfl i_Pile t_Pile t_Pile_ok n_Pile 0 (by decide) q_71 rfl rfl rfl rfl (Nat.le_of_ble_eq_true rfl) (u_raw (show 16 < xn Z 0 13 by omega)) d_Pile_init_10 (fun H locs hd => ?_)
  have hd := Dy.norm0 (L' := [(17, rfA (gK G) 40 (fun _ => none)), (16, .inr (7, [.ref a17, .int 0]))]) hd rfl
  exact zgv hC hd hr hlk d_Pile_init_13 ⟨a17, rfl, rfl, rfl⟩ (Nat.le_of_ble_eq_true rfl) (Nat.le_of_ble_eq_true rfl)
set_option maxHeartbeats 4000000 in
theorem c_Pile_init_18 (l : Launch) (G : Gt) (ad : Nat → Nat → Nat) (ow : Nat → Nat × Nat) (Z : Zt) (h13 : 50 ≤ xn Z 0 13) (he : xr Z 18 = some (.inr (7, [.null, .int 0]))) : Met l y_Pile_init w_Pile_init ({ frames := 1, cells := 1, slots := 40, locals := 20 }) (zPc G ad ow Z [.ref (ad 13 18)]) (Qg G (fun ad9 _ Z9 v9 => ∃ a19, (ads ad [(19, a19)]) = ad9 ∧ (srs Z [(19, rfA (gK G) 40 (fun _ => none)), (18, .inr (7, [.ref a19, .int 0]))]) = Z9 ∧ none = v9)) 1 40 (zA G) := by
  refine zopen (cc := b_Pile_init) (maxL := 1) (ret := none) (by decide) rfl (Nat.le_of_ble_eq_true rfl) ?_
  intro p e s m below meth c ls hC hr hlk hnm hd hl
  have hC : Cx G p c m s _ "KeyGraph$Pile" b_Pile_init 1 := hC
  have hl : lv_has ls 1 [(0, .ref (ad 13 18))] := hl
  have hx := hC.1
  have hb := hC.2.1
  have hd : Dy G (ads ad []) ow (srs Z []) s s.heap [] := by rw [ads_nil, srs_nil]; exact hd
  obtain ⟨H, hH⟩ : ∃ q, q = s.heap := ⟨_, rfl⟩
  obtain ⟨locs, hlocs⟩ : ∃ q : List Loc, q = [] := ⟨_, rfl⟩
  rw [← hH, ← hlocs] at hd
  rw [← hH, ← hlocs]
  refine lv_aload_n hx hb d_Pile_init_0 rfl (lv_at hl 0 rfl) ?_
  refine zobj hC hl.1 q_68 q_31 q_32 (Nat.le_of_ble_eq_true rfl) (by decide) d_Pile_init_1 ?_
  refine lv_aload_n hx hb d_Pile_init_4 rfl (lv_at hl 0 rfl) ?_
  refine lv_bipush (v := 40) hx hb d_Pile_init_5 (by decide) ?_
  refine znewK (ad := (ads ad [])) (rest := [.ref (ad 13 18)]) hC hd 40 q_69 (by decide) (by decide) (Nat.le_of_ble_eq_true rfl) 19 (show 19 < xn Z 0 13 by omega) (Nat.le_of_ble_eq_true rfl) (Nat.le_of_ble_eq_true rfl) d_Pile_init_7 (fun a19 ow H hd => ?_)
  have hd := Dy.norm (A' := [(19, a19)]) (L' := [(19, rfA (gK G) 40 (fun _ => none))]) hd rfl rfl
  refine zputF (Z' := (sr (srs Z [(19, rfA (gK G) 40 (fun _ => none))]) 18 (some (.inr (7, [.ref a19, .int 0]))))) (v := .ref a19) (ad := (ads ad [(19, a19)])) (o := 13) (i := 18) hC hnm hd (e_raw (ad := (ads ad [(19, a19)])) (Z := (srs Z [(19, rfA (gK G) 40 (fun _ => none))])) (e := .inr (7, [.null, .int 0])) (show 18 < xn Z 0 13 by omega) he) rfl i_Pile t_Pile t_Pile_ok n_Pile 0 (by decide) q_71 rfl rfl rfl rfl (Nat.le_of_ble_eq_true rfl) (u_raw (show 18 < xn Z 0 13 by omega)) d_Pile_init_10 (fun H locs hd => ?_)
  have hd := Dy.norm0 (L' := [(19, rfA (gK G) 40 (fun _ => none)), (18, .inr (7, [.ref a19, .int 0]))]) hd rfl
  exact zgv hC hd hr hlk d_Pile_init_13 ⟨a19, rfl, rfl, rfl⟩ (Nat.le_of_ble_eq_true rfl) (Nat.le_of_ble_eq_true rfl)
set_option maxHeartbeats 4000000 in
theorem c_Key_init_leaf (l : Launch) (G : Gt) (ad : Nat → Nat → Nat) (ow : Nat → Nat × Nat) (Z : Zt) (h13 : 50 ≤ xn Z 0 13) (he : xr Z 0 = some (.inr (1, [.int 0, .null, .null, .int 0, .long 0, .int 0, .int 0, .int 0, .int 0, .int 0, .int 0, .null, .null, .int 0, .int 0, .int 0, .int 0, .int 0]))) (k : Nat) : Met l y_Key_init w_Key_init ({ frames := 4, cells := 3, slots := 19, locals := 80 }) (zPc G ad ow Z [.ref (ad 13 0), .int (nI k), .null]) (Qg G (fun ad9 _ Z9 v9 => ∃ a2, ∃ a3, ∃ a4, (ads ad [(2, a2), (3, a3), (4, a4)]) = ad9 ∧ (srs Z [(2, .inr (8, [.int 0, .ref (ge G), .int 0])), (0, .inr (1, [.int (nI k), .null, .ref a2, .int 0, .long 0, .int 0, .int (-1), .int 0, .int 0, .int 0, .int 0, .ref a3, .ref a4, .int 0, .int 0, .int (-1), .int 0, .int 0])), (3, inA (gI G) 8 (fun _ => 0)), (4, inA (gI G) 8 (fun _ => 0))]) = Z9 ∧ none = v9)) 3 19 (zA G) := by
  refine zopen (cc := b_Key_init) (maxL := 3) (ret := none) (by decide) rfl (Nat.le_of_ble_eq_true rfl) ?_
  intro p e s m below meth c ls hC hr hlk hnm hd hl
  have hC : Cx G p c m s _ "KeyGraph$Key" b_Key_init 3 := hC
  have hl : lv_has ls 3 [(0, .ref (ad 13 0)), (1, .int (nI k)), (2, .null)] := hl
  have hx := hC.1
  have hb := hC.2.1
  have hd : Dy G (ads ad []) ow (srs Z []) s s.heap [] := by rw [ads_nil, srs_nil]; exact hd
  obtain ⟨H, hH⟩ : ∃ q, q = s.heap := ⟨_, rfl⟩
  obtain ⟨locs, hlocs⟩ : ∃ q : List Loc, q = [] := ⟨_, rfl⟩
  rw [← hH, ← hlocs] at hd
  rw [← hH, ← hlocs]
  refine lv_aload_n hx hb d_Key_init_0 rfl (lv_at hl 0 rfl) ?_
  refine zobj hC hl.1 q_110 q_31 q_32 (Nat.le_of_ble_eq_true rfl) (by decide) d_Key_init_1 ?_
  refine lv_aload_n hx hb d_Key_init_4 rfl (lv_at hl 0 rfl) ?_
  refine znew (ci := 8) (ad := (ads ad [])) (rest := [.ref (ad 13 0)]) (fs := [.int 0, .null, .int 0]) hC hd rfl i_AL t_AL t_AL_ok q_111 q_34 q_4 df_AL 2 (show 2 < xn Z 0 13 by omega) (Nat.le_of_ble_eq_true rfl) (Nat.le_of_ble_eq_true rfl) d_Key_init_5 (fun a2 ow H hd => ?_)
  have hd := Dy.norm (A' := [(2, a2)]) (L' := [(2, .inr (8, [.int 0, .null, .int 0]))]) hd rfl rfl
  refine lv_dup hx hb d_Key_init_8 rfl ?_
  refine zbackg hd (zrunI (n := 0) (rest := [.ref a2, .ref (ad 13 0)]) hC hd (c_AL_init_2 l G (ads ad [(2, a2)]) ow (srs Z [(2, .inr (8, [.int 0, .null, .int 0]))]) (show 50 ≤ xn Z 0 13 from h13) rfl) q_112 q_36 q_4 q_37 rfl rfl rfl rfl ⟨by decide, by decide, by decide +kernel⟩ ⟨by decide, by decide⟩ rfl hl.1 (Nat.le_of_ble_eq_true rfl) d_Key_init_9 ⟨by decide, by decide⟩) rfl rfl (fun ad9 ow Z9 v9 H locs hq hd => ?_)
  obtain ⟨rfl, rfl, rfl⟩ := hq
  have hd := Dy.normC (A' := [(2, a2)]) (L' := [(2, .inr (8, [.int 0, .ref (ge G), .int 0]))]) hd rfl rfl rfl rfl
  refine zputF (Z' := (sr (srs Z [(2, .inr (8, [.int 0, .ref (ge G), .int 0]))]) 0 (some (.inr (1, [.int 0, .null, .ref a2, .int 0, .long 0, .int 0, .int 0, .int 0, .int 0, .int 0, .int 0, .null, .null, .int 0, .int 0, .int 0, .int 0, .int 0]))))) (v := .ref a2) (ad := (ads ad [(2, a2)])) (o := 13) (i := 0) hC hnm hd (e_raw (ad := (ads ad [(2, a2)])) (Z := (srs Z [(2, .inr (8, [.int 0, .ref (ge G), .int 0]))])) (e := .inr (1, [.int 0, .null, .null, .int 0, .long 0, .int 0, .int 0, .int 0, .int 0, .int 0, .int 0, .null, .null, .int 0, .int 0, .int 0, .int 0, .int 0])) (show 0 < xn Z 0 13 by omega) he) rfl i_Key t_Key t_Key_ok n_Key 2 (by decide) q_117 rfl rfl rfl rfl (Nat.le_of_ble_eq_true rfl) (u_raw (show 0 < xn Z 0 13 by omega)) d_Key_init_12 (fun H locs hd => ?_)
  have hd := Dy.norm0 (L' := [(2, .inr (8, [.int 0, .ref (ge G), .int 0])), (0, .inr (1, [.int 0, .null, .ref a2, .int 0, .long 0, .int 0, .int 0, .int 0, .int 0, .int 0, .int 0, .null, .null, .int 0, .int 0, .int 0, .int 0, .int 0]))]) hd rfl
  refine lv_aload_n hx hb d_Key_init_15 rfl (lv_at hl 0 rfl) ?_
  refine lv_iconst (v := (-1)) hx hb d_Key_init_16 (by decide) ?_
  refine zput (Z' := (sr (srs Z [(2, .inr (8, [.int 0, .ref (ge G), .int 0])), (0, .inr (1, [.int 0, .null, .ref a2, .int 0, .long 0, .int 0, .int 0, .int 0, .int 0, .int 0, .int 0, .null, .null, .int 0, .int 0, .int 0, .int 0, .int 0]))]) 0 (some (.inr (1, [.int 0, .null, .ref a2, .int 0, .long 0, .int 0, .int (-1), .int 0, .int 0, .int 0, .int 0, .null, .null, .int 0, .int 0, .int 0, .int 0, .int 0]))))) (v := .int (-1)) (ad := (ads ad [(2, a2)])) (o := 13) (i := 0) hC hd (e_raw (ad := (ads ad [(2, a2)])) (Z := (srs Z [(2, .inr (8, [.int 0, .ref (ge G), .int 0])), (0, .inr (1, [.int 0, .null, .ref a2, .int 0, .long 0, .int 0, .int 0, .int 0, .int 0, .int 0, .int 0, .null, .null, .int 0, .int 0, .int 0, .int 0, .int 0]))])) (e := .inr (1, [.int 0, .null, .ref a2, .int 0, .long 0, .int 0, .int 0, .int 0, .int 0, .int 0, .int 0, .null, .null, .int 0, .int 0, .int 0, .int 0, .int 0])) (show 0 < xn Z 0 13 by omega) rfl) rfl i_Key t_Key t_Key_ok n_Key 6 (by decide) q_122 (Or.inl rfl) rfl rfl rfl (Nat.le_of_ble_eq_true rfl) (u_raw (show 0 < xn Z 0 13 by omega)) d_Key_init_17 (fun H locs hd => ?_)
  have hd := Dy.norm0 (L' := [(2, .inr (8, [.int 0, .ref (ge G), .int 0])), (0, .inr (1, [.int 0, .null, .ref a2, .int 0, .long 0, .int 0, .int (-1), .int 0, .int 0, .int 0, .int 0, .null, .null, .int 0, .int 0, .int 0, .int 0, .int 0]))]) hd rfl
  refine lv_aload_n hx hb d_Key_init_20 rfl (lv_at hl 0 rfl) ?_
  refine lv_bipush (v := 8) hx hb d_Key_init_21 (by decide) ?_
  refine znewI (ad := (ads ad [(2, a2)])) (rest := [.ref (ad 13 0)]) hC hd 8 (by decide) (by decide) (Nat.le_of_ble_eq_true rfl) 3 (show 3 < xn Z 0 13 by omega) q_175 (Nat.le_of_ble_eq_true rfl) (Nat.le_of_ble_eq_true rfl) d_Key_init_23 (fun a3 ow H hd => ?_)
  have hd := Dy.norm (A' := [(2, a2), (3, a3)]) (L' := [(2, .inr (8, [.int 0, .ref (ge G), .int 0])), (0, .inr (1, [.int 0, .null, .ref a2, .int 0, .long 0, .int 0, .int (-1), .int 0, .int 0, .int 0, .int 0, .null, .null, .int 0, .int 0, .int 0, .int 0, .int 0])), (3, inA (gI G) 8 (fun _ => 0))]) hd rfl rfl
  refine zput (Z' := (sr (srs Z [(2, .inr (8, [.int 0, .ref (ge G), .int 0])), (0, .inr (1, [.int 0, .null, .ref a2, .int 0, .long 0, .int 0, .int (-1), .int 0, .int 0, .int 0, .int 0, .null, .null, .int 0, .int 0, .int 0, .int 0, .int 0])), (3, inA (gI G) 8 (fun _ => 0))]) 0 (some (.inr (1, [.int 0, .null, .ref a2, .int 0, .long 0, .int 0, .int (-1), .int 0, .int 0, .int 0, .int 0, .ref a3, .null, .int 0, .int 0, .int 0, .int 0, .int 0]))))) (v := .ref a3) (ad := (ads ad [(2, a2), (3, a3)])) (o := 13) (i := 0) hC hd (e_raw (ad := (ads ad [(2, a2), (3, a3)])) (Z := (srs Z [(2, .inr (8, [.int 0, .ref (ge G), .int 0])), (0, .inr (1, [.int 0, .null, .ref a2, .int 0, .long 0, .int 0, .int (-1), .int 0, .int 0, .int 0, .int 0, .null, .null, .int 0, .int 0, .int 0, .int 0, .int 0])), (3, inA (gI G) 8 (fun _ => 0))])) (e := .inr (1, [.int 0, .null, .ref a2, .int 0, .long 0, .int 0, .int (-1), .int 0, .int 0, .int 0, .int 0, .null, .null, .int 0, .int 0, .int 0, .int 0, .int 0])) (show 0 < xn Z 0 13 by omega) rfl) rfl i_Key t_Key t_Key_ok n_Key 11 (by decide) q_128 (Or.inl rfl) rfl rfl rfl (Nat.le_of_ble_eq_true rfl) (u_raw (show 0 < xn Z 0 13 by omega)) d_Key_init_25 (fun H locs hd => ?_)
  have hd := Dy.norm0 (L' := [(2, .inr (8, [.int 0, .ref (ge G), .int 0])), (0, .inr (1, [.int 0, .null, .ref a2, .int 0, .long 0, .int 0, .int (-1), .int 0, .int 0, .int 0, .int 0, .ref a3, .null, .int 0, .int 0, .int 0, .int 0, .int 0])), (3, inA (gI G) 8 (fun _ => 0))]) hd rfl
  refine lv_aload_n hx hb d_Key_init_28 rfl (lv_at hl 0 rfl) ?_
  refine lv_bipush (v := 8) hx hb d_Key_init_29 (by decide) ?_
  refine znewI (ad := (ads ad [(2, a2), (3, a3)])) (rest := [.ref (ad 13 0)]) hC hd 8 (by decide) (by decide) (Nat.le_of_ble_eq_true rfl) 4 (show 4 < xn Z 0 13 by omega) q_175 (Nat.le_of_ble_eq_true rfl) (Nat.le_of_ble_eq_true rfl) d_Key_init_31 (fun a4 ow H hd => ?_)
  have hd := Dy.norm (A' := [(2, a2), (3, a3), (4, a4)]) (L' := [(2, .inr (8, [.int 0, .ref (ge G), .int 0])), (0, .inr (1, [.int 0, .null, .ref a2, .int 0, .long 0, .int 0, .int (-1), .int 0, .int 0, .int 0, .int 0, .ref a3, .null, .int 0, .int 0, .int 0, .int 0, .int 0])), (3, inA (gI G) 8 (fun _ => 0)), (4, inA (gI G) 8 (fun _ => 0))]) hd rfl rfl
  refine zput (Z' := (sr (srs Z [(2, .inr (8, [.int 0, .ref (ge G), .int 0])), (0, .inr (1, [.int 0, .null, .ref a2, .int 0, .long 0, .int 0, .int (-1), .int 0, .int 0, .int 0, .int 0, .ref a3, .null, .int 0, .int 0, .int 0, .int 0, .int 0])), (3, inA (gI G) 8 (fun _ => 0)), (4, inA (gI G) 8 (fun _ => 0))]) 0 (some (.inr (1, [.int 0, .null, .ref a2, .int 0, .long 0, .int 0, .int (-1), .int 0, .int 0, .int 0, .int 0, .ref a3, .ref a4, .int 0, .int 0, .int 0, .int 0, .int 0]))))) (v := .ref a4) (ad := (ads ad [(2, a2), (3, a3), (4, a4)])) (o := 13) (i := 0) hC hd (e_raw (ad := (ads ad [(2, a2), (3, a3), (4, a4)])) (Z := (srs Z [(2, .inr (8, [.int 0, .ref (ge G), .int 0])), (0, .inr (1, [.int 0, .null, .ref a2, .int 0, .long 0, .int 0, .int (-1), .int 0, .int 0, .int 0, .int 0, .ref a3, .null, .int 0, .int 0, .int 0, .int 0, .int 0])), (3, inA (gI G) 8 (fun _ => 0)), (4, inA (gI G) 8 (fun _ => 0))])) (e := .inr (1, [.int 0, .null, .ref a2, .int 0, .long 0, .int 0, .int (-1), .int 0, .int 0, .int 0, .int 0, .ref a3, .null, .int 0, .int 0, .int 0, .int 0, .int 0])) (show 0 < xn Z 0 13 by omega) rfl) rfl i_Key t_Key t_Key_ok n_Key 12 (by decide) q_130 (Or.inl rfl) rfl rfl rfl (Nat.le_of_ble_eq_true rfl) (u_raw (show 0 < xn Z 0 13 by omega)) d_Key_init_33 (fun H locs hd => ?_)
  have hd := Dy.norm0 (L' := [(2, .inr (8, [.int 0, .ref (ge G), .int 0])), (0, .inr (1, [.int 0, .null, .ref a2, .int 0, .long 0, .int 0, .int (-1), .int 0, .int 0, .int 0, .int 0, .ref a3, .ref a4, .int 0, .int 0, .int 0, .int 0, .int 0])), (3, inA (gI G) 8 (fun _ => 0)), (4, inA (gI G) 8 (fun _ => 0))]) hd rfl
  refine lv_aload_n hx hb d_Key_init_36 rfl (lv_at hl 0 rfl) ?_
  refine lv_iconst (v := (-1)) hx hb d_Key_init_37 (by decide) ?_
  refine zput (Z' := (sr (srs Z [(2, .inr (8, [.int 0, .ref (ge G), .int 0])), (0, .inr (1, [.int 0, .null, .ref a2, .int 0, .long 0, .int 0, .int (-1), .int 0, .int 0, .int 0, .int 0, .ref a3, .ref a4, .int 0, .int 0, .int 0, .int 0, .int 0])), (3, inA (gI G) 8 (fun _ => 0)), (4, inA (gI G) 8 (fun _ => 0))]) 0 (some (.inr (1, [.int 0, .null, .ref a2, .int 0, .long 0, .int 0, .int (-1), .int 0, .int 0, .int 0, .int 0, .ref a3, .ref a4, .int 0, .int 0, .int (-1), .int 0, .int 0]))))) (v := .int (-1)) (ad := (ads ad [(2, a2), (3, a3), (4, a4)])) (o := 13) (i := 0) hC hd (e_raw (ad := (ads ad [(2, a2), (3, a3), (4, a4)])) (Z := (srs Z [(2, .inr (8, [.int 0, .ref (ge G), .int 0])), (0, .inr (1, [.int 0, .null, .ref a2, .int 0, .long 0, .int 0, .int (-1), .int 0, .int 0, .int 0, .int 0, .ref a3, .ref a4, .int 0, .int 0, .int 0, .int 0, .int 0])), (3, inA (gI G) 8 (fun _ => 0)), (4, inA (gI G) 8 (fun _ => 0))])) (e := .inr (1, [.int 0, .null, .ref a2, .int 0, .long 0, .int 0, .int (-1), .int 0, .int 0, .int 0, .int 0, .ref a3, .ref a4, .int 0, .int 0, .int 0, .int 0, .int 0])) (show 0 < xn Z 0 13 by omega) rfl) rfl i_Key t_Key t_Key_ok n_Key 15 (by decide) q_134 (Or.inl rfl) rfl rfl rfl (Nat.le_of_ble_eq_true rfl) (u_raw (show 0 < xn Z 0 13 by omega)) d_Key_init_38 (fun H locs hd => ?_)
  have hd := Dy.norm0 (L' := [(2, .inr (8, [.int 0, .ref (ge G), .int 0])), (0, .inr (1, [.int 0, .null, .ref a2, .int 0, .long 0, .int 0, .int (-1), .int 0, .int 0, .int 0, .int 0, .ref a3, .ref a4, .int 0, .int 0, .int (-1), .int 0, .int 0])), (3, inA (gI G) 8 (fun _ => 0)), (4, inA (gI G) 8 (fun _ => 0))]) hd rfl
  refine lv_aload_n hx hb d_Key_init_41 rfl (lv_at hl 0 rfl) ?_
  refine lv_iload_n hx hb d_Key_init_42 rfl (lv_at hl 1 rfl) ?_
  refine zputF (Z' := (sr (srs Z [(2, .inr (8, [.int 0, .ref (ge G), .int 0])), (0, .inr (1, [.int 0, .null, .ref a2, .int 0, .long 0, .int 0, .int (-1), .int 0, .int 0, .int 0, .int 0, .ref a3, .ref a4, .int 0, .int 0, .int (-1), .int 0, .int 0])), (3, inA (gI G) 8 (fun _ => 0)), (4, inA (gI G) 8 (fun _ => 0))]) 0 (some (.inr (1, [.int (nI k), .null, .ref a2, .int 0, .long 0, .int 0, .int (-1), .int 0, .int 0, .int 0, .int 0, .ref a3, .ref a4, .int 0, .int 0, .int (-1), .int 0, .int 0]))))) (v := .int (nI k)) (ad := (ads ad [(2, a2), (3, a3), (4, a4)])) (o := 13) (i := 0) hC hnm hd (e_raw (ad := (ads ad [(2, a2), (3, a3), (4, a4)])) (Z := (srs Z [(2, .inr (8, [.int 0, .ref (ge G), .int 0])), (0, .inr (1, [.int 0, .null, .ref a2, .int 0, .long 0, .int 0, .int (-1), .int 0, .int 0, .int 0, .int 0, .ref a3, .ref a4, .int 0, .int 0, .int (-1), .int 0, .int 0])), (3, inA (gI G) 8 (fun _ => 0)), (4, inA (gI G) 8 (fun _ => 0))])) (e := .inr (1, [.int 0, .null, .ref a2, .int 0, .long 0, .int 0, .int (-1), .int 0, .int 0, .int 0, .int 0, .ref a3, .ref a4, .int 0, .int 0, .int (-1), .int 0, .int 0])) (show 0 < xn Z 0 13 by omega) rfl) rfl i_Key t_Key t_Key_ok n_Key 0 (by decide) q_113 rfl rfl rfl rfl (Nat.le_of_ble_eq_true rfl) (u_raw (show 0 < xn Z 0 13 by omega)) d_Key_init_43 (fun H locs hd => ?_)
  have hd := Dy.norm0 (L' := [(2, .inr (8, [.int 0, .ref (ge G), .int 0])), (0, .inr (1, [.int (nI k), .null, .ref a2, .int 0, .long 0, .int 0, .int (-1), .int 0, .int 0, .int 0, .int 0, .ref a3, .ref a4, .int 0, .int 0, .int (-1), .int 0, .int 0])), (3, inA (gI G) 8 (fun _ => 0)), (4, inA (gI G) 8 (fun _ => 0))]) hd rfl
  refine lv_aload_n hx hb d_Key_init_46 rfl (lv_at hl 0 rfl) ?_
  refine lv_aload_nN hx hb d_Key_init_47 rfl (lv_at hl 2 rfl) ?_
  refine zputF (Z' := (sr (srs Z [(2, .inr (8, [.int 0, .ref (ge G), .int 0])), (0, .inr (1, [.int (nI k), .null, .ref a2, .int 0, .long 0, .int 0, .int (-1), .int 0, .int 0, .int 0, .int 0, .ref a3, .ref a4, .int 0, .int 0, .int (-1), .int 0, .int 0])), (3, inA (gI G) 8 (fun _ => 0)), (4, inA (gI G) 8 (fun _ => 0))]) 0 (some (.inr (1, [.int (nI k), .null, .ref a2, .int 0, .long 0, .int 0, .int (-1), .int 0, .int 0, .int 0, .int 0, .ref a3, .ref a4, .int 0, .int 0, .int (-1), .int 0, .int 0]))))) (v := .null) (ad := (ads ad [(2, a2), (3, a3), (4, a4)])) (o := 13) (i := 0) hC hnm hd (e_raw (ad := (ads ad [(2, a2), (3, a3), (4, a4)])) (Z := (srs Z [(2, .inr (8, [.int 0, .ref (ge G), .int 0])), (0, .inr (1, [.int (nI k), .null, .ref a2, .int 0, .long 0, .int 0, .int (-1), .int 0, .int 0, .int 0, .int 0, .ref a3, .ref a4, .int 0, .int 0, .int (-1), .int 0, .int 0])), (3, inA (gI G) 8 (fun _ => 0)), (4, inA (gI G) 8 (fun _ => 0))])) (e := .inr (1, [.int (nI k), .null, .ref a2, .int 0, .long 0, .int 0, .int (-1), .int 0, .int 0, .int 0, .int 0, .ref a3, .ref a4, .int 0, .int 0, .int (-1), .int 0, .int 0])) (show 0 < xn Z 0 13 by omega) rfl) rfl i_Key t_Key t_Key_ok n_Key 1 (by decide) q_115 rfl rfl rfl rfl (Nat.le_of_ble_eq_true rfl) (u_raw (show 0 < xn Z 0 13 by omega)) d_Key_init_48 (fun H locs hd => ?_)
  have hd := Dy.norm0 (L' := [(2, .inr (8, [.int 0, .ref (ge G), .int 0])), (0, .inr (1, [.int (nI k), .null, .ref a2, .int 0, .long 0, .int 0, .int (-1), .int 0, .int 0, .int 0, .int 0, .ref a3, .ref a4, .int 0, .int 0, .int (-1), .int 0, .int 0])), (3, inA (gI G) 8 (fun _ => 0)), (4, inA (gI G) 8 (fun _ => 0))]) hd rfl
  exact zgv hC hd hr hlk d_Key_init_51 ⟨a2, a3, a4, rfl, rfl, rfl⟩ (Nat.le_of_ble_eq_true rfl) (Nat.le_of_ble_eq_true rfl)
set_option maxHeartbeats 4000000 in
theorem c_Key_init_fn (l : Launch) (G : Gt) (ad : Nat → Nat → Nat) (ow : Nat → Nat × Nat) (Z : Zt) (h13 : 50 ≤ xn Z 0 13) (he : xr Z 0 = some (.inr (1, [.int 0, .null, .null, .int 0, .long 0, .int 0, .int 0, .int 0, .int 0, .int 0, .int 0, .null, .null, .int 0, .int 0, .int 0, .int 0, .int 0]))) (k : Nat) (fa : Nat) : Met l y_Key_init w_Key_init ({ frames := 4, cells := 3, slots := 19, locals := 80 }) (zPc G ad ow Z [.ref (ad 13 0), .int (nI k), .ref fa]) (Qg G (fun ad9 _ Z9 v9 => ∃ a2, ∃ a3, ∃ a4, (ads ad [(2, a2), (3, a3), (4, a4)]) = ad9 ∧ (srs Z [(2, .inr (8, [.int 0, .ref (ge G), .int 0])), (0, .inr (1, [.int (nI k), .ref fa, .ref a2, .int 0, .long 0, .int 0, .int (-1), .int 0, .int 0, .int 0, .int 0, .ref a3, .ref a4, .int 0, .int 0, .int (-1), .int 0, .int 0])), (3, inA (gI G) 8 (fun _ => 0)), (4, inA (gI G) 8 (fun _ => 0))]) = Z9 ∧ none = v9)) 3 19 (zA G) := by
  refine zopen (cc := b_Key_init) (maxL := 3) (ret := none) (by decide) rfl (Nat.le_of_ble_eq_true rfl) ?_
  intro p e s m below meth c ls hC hr hlk hnm hd hl
  have hC : Cx G p c m s _ "KeyGraph$Key" b_Key_init 3 := hC
  have hl : lv_has ls 3 [(0, .ref (ad 13 0)), (1, .int (nI k)), (2, .ref fa)] := hl
  have hx := hC.1
  have hb := hC.2.1
  have hd : Dy G (ads ad []) ow (srs Z []) s s.heap [] := by rw [ads_nil, srs_nil]; exact hd
  obtain ⟨H, hH⟩ : ∃ q, q = s.heap := ⟨_, rfl⟩
  obtain ⟨locs, hlocs⟩ : ∃ q : List Loc, q = [] := ⟨_, rfl⟩
  rw [← hH, ← hlocs] at hd
  rw [← hH, ← hlocs]
  refine lv_aload_n hx hb d_Key_init_0 rfl (lv_at hl 0 rfl) ?_
  refine zobj hC hl.1 q_110 q_31 q_32 (Nat.le_of_ble_eq_true rfl) (by decide) d_Key_init_1 ?_
  refine lv_aload_n hx hb d_Key_init_4 rfl (lv_at hl 0 rfl) ?_
  refine znew (ci := 8) (ad := (ads ad [])) (rest := [.ref (ad 13 0)]) (fs := [.int 0, .null, .int 0]) hC hd rfl i_AL t_AL t_AL_ok q_111 q_34 q_4 df_AL 2 (show 2 < xn Z 0 13 by omega) (Nat.le_of_ble_eq_true rfl) (Nat.le_of_ble_eq_true rfl) d_Key_init_5 (fun a2 ow H hd => ?_)
  have hd := Dy.norm (A' := [(2, a2)]) (L' := [(2, .inr (8, [.int 0, .null, .int 0]))]) hd rfl rfl
  refine lv_dup hx hb d_Key_init_8 rfl ?_
  refine zbackg hd (zrunI (n := 0) (rest := [.ref a2, .ref (ad 13 0)]) hC hd (c_AL_init_2 l G (ads ad [(2, a2)]) ow (srs Z [(2, .inr (8, [.int 0, .null, .int 0]))]) (show 50 ≤ xn Z 0 13 from h13) rfl) q_112 q_36 q_4 q_37 rfl rfl rfl rfl ⟨by decide, by decide, by decide +kernel⟩ ⟨by decide, by decide⟩ rfl hl.1 (Nat.le_of_ble_eq_true rfl) d_Key_init_9 ⟨by decide, by decide⟩) rfl rfl (fun ad9 ow Z9 v9 H locs hq hd => ?_)
  obtain ⟨rfl, rfl, rfl⟩ := hq
  have hd := Dy.normC (A' := [(2, a2)]) (L' := [(2, .inr (8, [.int 0, .ref (ge G), .int 0]))]) hd rfl rfl rfl rfl
  refine zputF (Z' := (sr (srs Z [(2, .inr (8, [.int 0, .ref (ge G), .int 0]))]) 0 (some (.inr (1, [.int 0, .null, .ref a2, .int 0, .long 0, .int 0, .int 0, .int 0, .int 0, .int 0, .int 0, .null, .null, .int 0, .int 0, .int 0, .int 0, .int 0]))))) (v := .ref a2) (ad := (ads ad [(2, a2)])) (o := 13) (i := 0) hC hnm hd (e_raw (ad := (ads ad [(2, a2)])) (Z := (srs Z [(2, .inr (8, [.int 0, .ref (ge G), .int 0]))])) (e := .inr (1, [.int 0, .null, .null, .int 0, .long 0, .int 0, .int 0, .int 0, .int 0, .int 0, .int 0, .null, .null, .int 0, .int 0, .int 0, .int 0, .int 0])) (show 0 < xn Z 0 13 by omega) he) rfl i_Key t_Key t_Key_ok n_Key 2 (by decide) q_117 rfl rfl rfl rfl (Nat.le_of_ble_eq_true rfl) (u_raw (show 0 < xn Z 0 13 by omega)) d_Key_init_12 (fun H locs hd => ?_)
  have hd := Dy.norm0 (L' := [(2, .inr (8, [.int 0, .ref (ge G), .int 0])), (0, .inr (1, [.int 0, .null, .ref a2, .int 0, .long 0, .int 0, .int 0, .int 0, .int 0, .int 0, .int 0, .null, .null, .int 0, .int 0, .int 0, .int 0, .int 0]))]) hd rfl
  refine lv_aload_n hx hb d_Key_init_15 rfl (lv_at hl 0 rfl) ?_
  refine lv_iconst (v := (-1)) hx hb d_Key_init_16 (by decide) ?_
  refine zput (Z' := (sr (srs Z [(2, .inr (8, [.int 0, .ref (ge G), .int 0])), (0, .inr (1, [.int 0, .null, .ref a2, .int 0, .long 0, .int 0, .int 0, .int 0, .int 0, .int 0, .int 0, .null, .null, .int 0, .int 0, .int 0, .int 0, .int 0]))]) 0 (some (.inr (1, [.int 0, .null, .ref a2, .int 0, .long 0, .int 0, .int (-1), .int 0, .int 0, .int 0, .int 0, .null, .null, .int 0, .int 0, .int 0, .int 0, .int 0]))))) (v := .int (-1)) (ad := (ads ad [(2, a2)])) (o := 13) (i := 0) hC hd (e_raw (ad := (ads ad [(2, a2)])) (Z := (srs Z [(2, .inr (8, [.int 0, .ref (ge G), .int 0])), (0, .inr (1, [.int 0, .null, .ref a2, .int 0, .long 0, .int 0, .int 0, .int 0, .int 0, .int 0, .int 0, .null, .null, .int 0, .int 0, .int 0, .int 0, .int 0]))])) (e := .inr (1, [.int 0, .null, .ref a2, .int 0, .long 0, .int 0, .int 0, .int 0, .int 0, .int 0, .int 0, .null, .null, .int 0, .int 0, .int 0, .int 0, .int 0])) (show 0 < xn Z 0 13 by omega) rfl) rfl i_Key t_Key t_Key_ok n_Key 6 (by decide) q_122 (Or.inl rfl) rfl rfl rfl (Nat.le_of_ble_eq_true rfl) (u_raw (show 0 < xn Z 0 13 by omega)) d_Key_init_17 (fun H locs hd => ?_)
  have hd := Dy.norm0 (L' := [(2, .inr (8, [.int 0, .ref (ge G), .int 0])), (0, .inr (1, [.int 0, .null, .ref a2, .int 0, .long 0, .int 0, .int (-1), .int 0, .int 0, .int 0, .int 0, .null, .null, .int 0, .int 0, .int 0, .int 0, .int 0]))]) hd rfl
  refine lv_aload_n hx hb d_Key_init_20 rfl (lv_at hl 0 rfl) ?_
  refine lv_bipush (v := 8) hx hb d_Key_init_21 (by decide) ?_
  refine znewI (ad := (ads ad [(2, a2)])) (rest := [.ref (ad 13 0)]) hC hd 8 (by decide) (by decide) (Nat.le_of_ble_eq_true rfl) 3 (show 3 < xn Z 0 13 by omega) q_175 (Nat.le_of_ble_eq_true rfl) (Nat.le_of_ble_eq_true rfl) d_Key_init_23 (fun a3 ow H hd => ?_)
  have hd := Dy.norm (A' := [(2, a2), (3, a3)]) (L' := [(2, .inr (8, [.int 0, .ref (ge G), .int 0])), (0, .inr (1, [.int 0, .null, .ref a2, .int 0, .long 0, .int 0, .int (-1), .int 0, .int 0, .int 0, .int 0, .null, .null, .int 0, .int 0, .int 0, .int 0, .int 0])), (3, inA (gI G) 8 (fun _ => 0))]) hd rfl rfl
  refine zput (Z' := (sr (srs Z [(2, .inr (8, [.int 0, .ref (ge G), .int 0])), (0, .inr (1, [.int 0, .null, .ref a2, .int 0, .long 0, .int 0, .int (-1), .int 0, .int 0, .int 0, .int 0, .null, .null, .int 0, .int 0, .int 0, .int 0, .int 0])), (3, inA (gI G) 8 (fun _ => 0))]) 0 (some (.inr (1, [.int 0, .null, .ref a2, .int 0, .long 0, .int 0, .int (-1), .int 0, .int 0, .int 0, .int 0, .ref a3, .null, .int 0, .int 0, .int 0, .int 0, .int 0]))))) (v := .ref a3) (ad := (ads ad [(2, a2), (3, a3)])) (o := 13) (i := 0) hC hd (e_raw (ad := (ads ad [(2, a2), (3, a3)])) (Z := (srs Z [(2, .inr (8, [.int 0, .ref (ge G), .int 0])), (0, .inr (1, [.int 0, .null, .ref a2, .int 0, .long 0, .int 0, .int (-1), .int 0, .int 0, .int 0, .int 0, .null, .null, .int 0, .int 0, .int 0, .int 0, .int 0])), (3, inA (gI G) 8 (fun _ => 0))])) (e := .inr (1, [.int 0, .null, .ref a2, .int 0, .long 0, .int 0, .int (-1), .int 0, .int 0, .int 0, .int 0, .null, .null, .int 0, .int 0, .int 0, .int 0, .int 0])) (show 0 < xn Z 0 13 by omega) rfl) rfl i_Key t_Key t_Key_ok n_Key 11 (by decide) q_128 (Or.inl rfl) rfl rfl rfl (Nat.le_of_ble_eq_true rfl) (u_raw (show 0 < xn Z 0 13 by omega)) d_Key_init_25 (fun H locs hd => ?_)
  have hd := Dy.norm0 (L' := [(2, .inr (8, [.int 0, .ref (ge G), .int 0])), (0, .inr (1, [.int 0, .null, .ref a2, .int 0, .long 0, .int 0, .int (-1), .int 0, .int 0, .int 0, .int 0, .ref a3, .null, .int 0, .int 0, .int 0, .int 0, .int 0])), (3, inA (gI G) 8 (fun _ => 0))]) hd rfl
  refine lv_aload_n hx hb d_Key_init_28 rfl (lv_at hl 0 rfl) ?_
  refine lv_bipush (v := 8) hx hb d_Key_init_29 (by decide) ?_
  refine znewI (ad := (ads ad [(2, a2), (3, a3)])) (rest := [.ref (ad 13 0)]) hC hd 8 (by decide) (by decide) (Nat.le_of_ble_eq_true rfl) 4 (show 4 < xn Z 0 13 by omega) q_175 (Nat.le_of_ble_eq_true rfl) (Nat.le_of_ble_eq_true rfl) d_Key_init_31 (fun a4 ow H hd => ?_)
  have hd := Dy.norm (A' := [(2, a2), (3, a3), (4, a4)]) (L' := [(2, .inr (8, [.int 0, .ref (ge G), .int 0])), (0, .inr (1, [.int 0, .null, .ref a2, .int 0, .long 0, .int 0, .int (-1), .int 0, .int 0, .int 0, .int 0, .ref a3, .null, .int 0, .int 0, .int 0, .int 0, .int 0])), (3, inA (gI G) 8 (fun _ => 0)), (4, inA (gI G) 8 (fun _ => 0))]) hd rfl rfl
  refine zput (Z' := (sr (srs Z [(2, .inr (8, [.int 0, .ref (ge G), .int 0])), (0, .inr (1, [.int 0, .null, .ref a2, .int 0, .long 0, .int 0, .int (-1), .int 0, .int 0, .int 0, .int 0, .ref a3, .null, .int 0, .int 0, .int 0, .int 0, .int 0])), (3, inA (gI G) 8 (fun _ => 0)), (4, inA (gI G) 8 (fun _ => 0))]) 0 (some (.inr (1, [.int 0, .null, .ref a2, .int 0, .long 0, .int 0, .int (-1), .int 0, .int 0, .int 0, .int 0, .ref a3, .ref a4, .int 0, .int 0, .int 0, .int 0, .int 0]))))) (v := .ref a4) (ad := (ads ad [(2, a2), (3, a3), (4, a4)])) (o := 13) (i := 0) hC hd (e_raw (ad := (ads ad [(2, a2), (3, a3), (4, a4)])) (Z := (srs Z [(2, .inr (8, [.int 0, .ref (ge G), .int 0])), (0, .inr (1, [.int 0, .null, .ref a2, .int 0, .long 0, .int 0, .int (-1), .int 0, .int 0, .int 0, .int 0, .ref a3, .null, .int 0, .int 0, .int 0, .int 0, .int 0])), (3, inA (gI G) 8 (fun _ => 0)), (4, inA (gI G) 8 (fun _ => 0))])) (e := .inr (1, [.int 0, .null, .ref a2, .int 0, .long 0, .int 0, .int (-1), .int 0, .int 0, .int 0, .int 0, .ref a3, .null, .int 0, .int 0, .int 0, .int 0, .int 0])) (show 0 < xn Z 0 13 by omega) rfl) rfl i_Key t_Key t_Key_ok n_Key 12 (by decide) q_130 (Or.inl rfl) rfl rfl rfl (Nat.le_of_ble_eq_true rfl) (u_raw (show 0 < xn Z 0 13 by omega)) d_Key_init_33 (fun H locs hd => ?_)
  have hd := Dy.norm0 (L' := [(2, .inr (8, [.int 0, .ref (ge G), .int 0])), (0, .inr (1, [.int 0, .null, .ref a2, .int 0, .long 0, .int 0, .int (-1), .int 0, .int 0, .int 0, .int 0, .ref a3, .ref a4, .int 0, .int 0, .int 0, .int 0, .int 0])), (3, inA (gI G) 8 (fun _ => 0)), (4, inA (gI G) 8 (fun _ => 0))]) hd rfl
  refine lv_aload_n hx hb d_Key_init_36 rfl (lv_at hl 0 rfl) ?_
  refine lv_iconst (v := (-1)) hx hb d_Key_init_37 (by decide) ?_
  refine zput (Z' := (sr (srs Z [(2, .inr (8, [.int 0, .ref (ge G), .int 0])), (0, .inr (1, [.int 0, .null, .ref a2, .int 0, .long 0, .int 0, .int (-1), .int 0, .int 0, .int 0, .int 0, .ref a3, .ref a4, .int 0, .int 0, .int 0, .int 0, .int 0])), (3, inA (gI G) 8 (fun _ => 0)), (4, inA (gI G) 8 (fun _ => 0))]) 0 (some (.inr (1, [.int 0, .null, .ref a2, .int 0, .long 0, .int 0, .int (-1), .int 0, .int 0, .int 0, .int 0, .ref a3, .ref a4, .int 0, .int 0, .int (-1), .int 0, .int 0]))))) (v := .int (-1)) (ad := (ads ad [(2, a2), (3, a3), (4, a4)])) (o := 13) (i := 0) hC hd (e_raw (ad := (ads ad [(2, a2), (3, a3), (4, a4)])) (Z := (srs Z [(2, .inr (8, [.int 0, .ref (ge G), .int 0])), (0, .inr (1, [.int 0, .null, .ref a2, .int 0, .long 0, .int 0, .int (-1), .int 0, .int 0, .int 0, .int 0, .ref a3, .ref a4, .int 0, .int 0, .int 0, .int 0, .int 0])), (3, inA (gI G) 8 (fun _ => 0)), (4, inA (gI G) 8 (fun _ => 0))])) (e := .inr (1, [.int 0, .null, .ref a2, .int 0, .long 0, .int 0, .int (-1), .int 0, .int 0, .int 0, .int 0, .ref a3, .ref a4, .int 0, .int 0, .int 0, .int 0, .int 0])) (show 0 < xn Z 0 13 by omega) rfl) rfl i_Key t_Key t_Key_ok n_Key 15 (by decide) q_134 (Or.inl rfl) rfl rfl rfl (Nat.le_of_ble_eq_true rfl) (u_raw (show 0 < xn Z 0 13 by omega)) d_Key_init_38 (fun H locs hd => ?_)
  have hd := Dy.norm0 (L' := [(2, .inr (8, [.int 0, .ref (ge G), .int 0])), (0, .inr (1, [.int 0, .null, .ref a2, .int 0, .long 0, .int 0, .int (-1), .int 0, .int 0, .int 0, .int 0, .ref a3, .ref a4, .int 0, .int 0, .int (-1), .int 0, .int 0])), (3, inA (gI G) 8 (fun _ => 0)), (4, inA (gI G) 8 (fun _ => 0))]) hd rfl
  refine lv_aload_n hx hb d_Key_init_41 rfl (lv_at hl 0 rfl) ?_
  refine lv_iload_n hx hb d_Key_init_42 rfl (lv_at hl 1 rfl) ?_
  refine zputF (Z' := (sr (srs Z [(2, .inr (8, [.int 0, .ref (ge G), .int 0])), (0, .inr (1, [.int 0, .null, .ref a2, .int 0, .long 0, .int 0, .int (-1), .int 0, .int 0, .int 0, .int 0, .ref a3, .ref a4, .int 0, .int 0, .int (-1), .int 0, .int 0])), (3, inA (gI G) 8 (fun _ => 0)), (4, inA (gI G) 8 (fun _ => 0))]) 0 (some (.inr (1, [.int (nI k), .null, .ref a2, .int 0, .long 0, .int 0, .int (-1), .int 0, .int 0, .int 0, .int 0, .ref a3, .ref a4, .int 0, .int 0, .int (-1), .int 0, .int 0]))))) (v := .int (nI k)) (ad := (ads ad [(2, a2), (3, a3), (4, a4)])) (o := 13) (i := 0) hC hnm hd (e_raw (ad := (ads ad [(2, a2), (3, a3), (4, a4)])) (Z := (srs Z [(2, .inr (8, [.int 0, .ref (ge G), .int 0])), (0, .inr (1, [.int 0, .null, .ref a2, .int 0, .long 0, .int 0, .int (-1), .int 0, .int 0, .int 0, .int 0, .ref a3, .ref a4, .int 0, .int 0, .int (-1), .int 0, .int 0])), (3, inA (gI G) 8 (fun _ => 0)), (4, inA (gI G) 8 (fun _ => 0))])) (e := .inr (1, [.int 0, .null, .ref a2, .int 0, .long 0, .int 0, .int (-1), .int 0, .int 0, .int 0, .int 0, .ref a3, .ref a4, .int 0, .int 0, .int (-1), .int 0, .int 0])) (show 0 < xn Z 0 13 by omega) rfl) rfl i_Key t_Key t_Key_ok n_Key 0 (by decide) q_113 rfl rfl rfl rfl (Nat.le_of_ble_eq_true rfl) (u_raw (show 0 < xn Z 0 13 by omega)) d_Key_init_43 (fun H locs hd => ?_)
  have hd := Dy.norm0 (L' := [(2, .inr (8, [.int 0, .ref (ge G), .int 0])), (0, .inr (1, [.int (nI k), .null, .ref a2, .int 0, .long 0, .int 0, .int (-1), .int 0, .int 0, .int 0, .int 0, .ref a3, .ref a4, .int 0, .int 0, .int (-1), .int 0, .int 0])), (3, inA (gI G) 8 (fun _ => 0)), (4, inA (gI G) 8 (fun _ => 0))]) hd rfl
  refine lv_aload_n hx hb d_Key_init_46 rfl (lv_at hl 0 rfl) ?_
  refine lv_aload_n hx hb d_Key_init_47 rfl (lv_at hl 2 rfl) ?_
  refine zputF (Z' := (sr (srs Z [(2, .inr (8, [.int 0, .ref (ge G), .int 0])), (0, .inr (1, [.int (nI k), .null, .ref a2, .int 0, .long 0, .int 0, .int (-1), .int 0, .int 0, .int 0, .int 0, .ref a3, .ref a4, .int 0, .int 0, .int (-1), .int 0, .int 0])), (3, inA (gI G) 8 (fun _ => 0)), (4, inA (gI G) 8 (fun _ => 0))]) 0 (some (.inr (1, [.int (nI k), .ref fa, .ref a2, .int 0, .long 0, .int 0, .int (-1), .int 0, .int 0, .int 0, .int 0, .ref a3, .ref a4, .int 0, .int 0, .int (-1), .int 0, .int 0]))))) (v := .ref fa) (ad := (ads ad [(2, a2), (3, a3), (4, a4)])) (o := 13) (i := 0) hC hnm hd (e_raw (ad := (ads ad [(2, a2), (3, a3), (4, a4)])) (Z := (srs Z [(2, .inr (8, [.int 0, .ref (ge G), .int 0])), (0, .inr (1, [.int (nI k), .null, .ref a2, .int 0, .long 0, .int 0, .int (-1), .int 0, .int 0, .int 0, .int 0, .ref a3, .ref a4, .int 0, .int 0, .int (-1), .int 0, .int 0])), (3, inA (gI G) 8 (fun _ => 0)), (4, inA (gI G) 8 (fun _ => 0))])) (e := .inr (1, [.int (nI k), .null, .ref a2, .int 0, .long 0, .int 0, .int (-1), .int 0, .int 0, .int 0, .int 0, .ref a3, .ref a4, .int 0, .int 0, .int (-1), .int 0, .int 0])) (show 0 < xn Z 0 13 by omega) rfl) rfl i_Key t_Key t_Key_ok n_Key 1 (by decide) q_115 rfl rfl rfl rfl (Nat.le_of_ble_eq_true rfl) (u_raw (show 0 < xn Z 0 13 by omega)) d_Key_init_48 (fun H locs hd => ?_)
  have hd := Dy.norm0 (L' := [(2, .inr (8, [.int 0, .ref (ge G), .int 0])), (0, .inr (1, [.int (nI k), .ref fa, .ref a2, .int 0, .long 0, .int 0, .int (-1), .int 0, .int 0, .int 0, .int 0, .ref a3, .ref a4, .int 0, .int 0, .int (-1), .int 0, .int 0])), (3, inA (gI G) 8 (fun _ => 0)), (4, inA (gI G) 8 (fun _ => 0))]) hd rfl
  exact zgv hC hd hr hlk d_Key_init_51 ⟨a2, a3, a4, rfl, rfl, rfl⟩ (Nat.le_of_ble_eq_true rfl) (Nat.le_of_ble_eq_true rfl)
