theorem Dy.born {G : Gt} {ad ad1 : Nat → Nat → Nat} {ow : Nat → Nat × Nat} {Z Z1 : Zt} {s : State} {H : Heap} {locs : List Loc} {kd n : Nat} (hn : n = xn Z 0 1) (hX : XS Z) (hb4 : ∀ i j, xc Z 4 i j ≤ xn Z 0 1) (hb7 : ∀ i j, xc Z 7 i j ≤ xn Z 0 1) (hraw : ∀ r, xr Z r = none) (h13 : 50 ≤ xn Z 0 13) (hA : ∀ o i, o ≠ 13 → ad1 o i = ad o i) (hZ : Z1.1 = Z.1 ∧ Z1.2.1 = Z.2.1 ∧ Z1.2.2.1 = Z.2.2.1 ∧ Z1.2.2.2.1 = Z.2.2.2.1) (hd : Dy G ad1 ow Z1 s H locs) {a0 a1 a2 a3 a4 : Nat} (ea0 : ad1 13 0 = a0) (ea1 : ad1 13 1 = a1) (ea2 : ad1 13 2 = a2) (ea3 : ad1 13 3 = a3) (ea4 : ad1 13 4 = a4)
    (h0 : xr Z1 0 = some (.inr (1, [.int (nI n), va_rf (if kd = 6 then none else some a1), .ref a2, .int 0, .long 0, .int 0, .int (-1), .int 0, .int 0, .int 0, .int 0, .ref a3, .ref a4, .int 0, .int 0, .int (-1), .int 0, .int 0]))) (h1 : kd = 6 ∨ (kd < 6 ∧ ∃ e1, xr Z1 1 = some e1 ∧ fnE (x_mk Z kd) n = some e1)) (h2 : xr Z1 2 = some (.inr (8, [.int 0, .ref (ge G), .int 0]))) (h3 : xr Z1 3 = some (inA (gI G) 8 (fun _ => 0))) (h4 : xr Z1 4 = some (inA (gI G) 8 (fun _ => 0))) :
    ∃ ow', Dy G (bornA ad n a0 a1 a2 a3 a4) ow' (x_mk Z kd) s H locs := by
  have hc := hX.1
  have h13' : 50 ≤ xn Z1 0 13 := by unfold xn; rw [hZ.2.2.1]; exact h13
  have r0 := hd.1 13 0 _ (e_raw (by omega) h0)
  have r2 := hd.1 13 2 _ (e_raw (by omega) h2)
  have r3 := hd.1 13 3 _ (e_raw (by omega) h3)
  have r4 := hd.1 13 4 _ (e_raw (by omega) h4)
  rw [ea0] at r0
  rw [ea2] at r2
  rw [ea3] at r3
  rw [ea4] at r4
  have n02 : a2 ≠ a0 := fun q => by have := r2.2.2; rw [q, r0.2.2] at this; cases this
  have n03 : a3 ≠ a0 := fun q => by have := r3.2.2; rw [q, r0.2.2] at this; cases this
  have n04 : a4 ≠ a0 := fun q => by have := r4.2.2; rw [q, r0.2.2] at this; cases this
  have n23 : a3 ≠ a2 := fun q => by have := r3.2.2; rw [q, r2.2.2] at this; cases this
  have n24 : a4 ≠ a2 := fun q => by have := r4.2.2; rw [q, r2.2.2] at this; cases this
  have n34 : a4 ≠ a3 := fun q => by have := r4.2.2; rw [q, r3.2.2] at this; cases this
  have r1 : kd = 6 ∨ (kd < 6 ∧ ∃ e1, (va_at (gD G) cls (a1, e1) H ∧ gb G ≤ a1 ∧ ow a1 = (13, 1)) ∧ fnE (x_mk Z kd) n = some e1) := by
    rcases h1 with h | ⟨h, e1, h5, h6⟩
    · exact Or.inl h
    · have r1 := hd.1 13 1 _ (e_raw (by omega) h5)
      rw [ea1] at r1
      exact Or.inr ⟨h, e1, r1, h6⟩
  have n1 : ∀ b r, r ≠ 1 → ow b = (13, r) → ¬ (b = a1 ∧ kd ≠ 6) := fun b r hr hb q => by
    rcases r1 with h | ⟨-, e1, h, -⟩
    · exact q.2 h
    · rw [q.1, h.2.2] at hb
      cases hb
      exact hr rfl
  refine ⟨fun q => if q = a0 then (1, n) else if q = a1 ∧ kd ≠ 6 then (2, n) else if q = a2 then (3, n + 2) else if q = a3 then (5, 2 * n) else if q = a4 then (5, 2 * n + 1) else ow q, ?_, hd.2⟩
  have b0 : bornA ad n a0 a1 a2 a3 a4 1 n = a0 := by unfold bornA; simp
  have b1 : bornA ad n a0 a1 a2 a3 a4 2 n = a1 := by unfold bornA; simp
  have b2 : bornA ad n a0 a1 a2 a3 a4 3 (n + 2) = a2 := by unfold bornA; simp
  have b3 : bornA ad n a0 a1 a2 a3 a4 5 (2 * n) = a3 := by unfold bornA; simp
  have b4 : bornA ad n a0 a1 a2 a3 a4 5 (2 * n + 1) = a4 := by unfold bornA; simp
  intro o i e he
  by_cases c1 : o = 1 ∧ i = n
  · obtain ⟨rfl, rfl⟩ := c1
    rw [e_key (show i < xn (x_mk Z kd) 0 1 by rw [mk_xn]; simp; omega)] at he
    cases he
    rw [b0]
    refine ⟨?_, r0.2.1, if_pos rfl⟩
    have hk : keyF (bornA ad i a0 a1 a2 a3 a4) (x_mk Z kd) i = [.int (nI i), va_rf (if kd = 6 then none else some a1), .ref a2, .int 0, .long 0, .int 0, .int (-1), .int 0, .int 0, .int 0, .int 0, .ref a3, .ref a4, .int 0, .int 0, .int (-1), .int 0, .int 0] := by
      simp only [keyF, b1, b2, mk_xn, mk_xi, mk_xl, ← hn]
      simp [b3, b4]
      rfl
    rw [hk]
    exact r0.1
  by_cases c2 : o = 2 ∧ i = n
  · obtain ⟨rfl, rfl⟩ := c2
    rw [e_fn (show i < xn (x_mk Z kd) 0 2 by rw [mk_xn]; simp; omega)] at he
    rcases r1 with h | ⟨h, e1, r1, h6⟩
    · exfalso
      unfold fnE at he
      rw [show xn (x_mk Z kd) 1 i = 6 by rw [mk_xn, ← hn]; simp [h]] at he
      cases he
    · rw [h6] at he
      cases he
      rw [b1]
      have n01 : a1 ≠ a0 := fun q => by have := r1.2.2; rw [q, r0.2.2] at this; cases this
      exact ⟨r1.1, r1.2.1, by dsimp only; rw [if_neg n01, if_pos ⟨rfl, by omega⟩]⟩
  by_cases c3 : o = 3 ∧ i = n + 2
  · obtain ⟨rfl, rfl⟩ := c3
    rw [e_list (show n + 2 < xn (x_mk Z kd) 0 3 by rw [mk_xn]; simp; omega)] at he
    cases he
    rw [b2]
    refine ⟨?_, r2.2.1, by dsimp only; rw [if_neg n02, if_neg (n1 a2 2 (by decide) r2.2.2), if_pos rfl]⟩
    have hk : listF G (bornA ad n a0 a1 a2 a3 a4) (x_mk Z kd) (n + 2) = [.int 0, .ref (ge G), .int 0] := by
      simp only [listF, mk_xn, mk_xi, ← hn]
      simp
      rfl
    rw [hk]
    exact r2.1
  by_cases c4 : o = 4 ∧ i = n + 2
  · obtain ⟨rfl, rfl⟩ := c4
    exfalso
    have : ent G (bornA ad n a0 a1 a2 a3 a4) (x_mk Z kd) 4 (n + 2) = none := by
      simp only [ent]
      rw [show xn (x_mk Z kd) 3 (n + 2) = 0 by rw [mk_xn, ← hn]; simp]
      simp
    rw [this] at he
    cases he
  have hz : ∀ a, a = 2 * n ∨ a = 2 * n + 1 → (fun j => nI (xc (x_mk Z kd) 5 a j)) = fun _ => 0 := fun a ha => by
    funext j
    rw [mk_xc, ← hn]
    rcases ha with h | h <;> simp [h] <;> rfl
  by_cases c5 : o = 5 ∧ i = 2 * n
  · obtain ⟨rfl, rfl⟩ := c5
    rw [e_arr (show 2 * n < xn (x_mk Z kd) 0 5 by rw [mk_xn]; simp; omega), hz _ (Or.inl rfl)] at he
    cases he
    rw [b3]
    exact ⟨r3.1, r3.2.1, by dsimp only; rw [if_neg n03, if_neg (n1 a3 3 (by decide) r3.2.2), if_neg n23, if_pos rfl]⟩
  by_cases c6 : o = 5 ∧ i = 2 * n + 1
  · obtain ⟨rfl, rfl⟩ := c6
    rw [e_arr (show 2 * n + 1 < xn (x_mk Z kd) 0 5 by rw [mk_xn]; simp; omega), hz _ (Or.inr rfl)] at he
    cases he
    rw [b4]
    exact ⟨r4.1, r4.2.1, by dsimp only; rw [if_neg n04, if_neg (n1 a4 4 (by decide) r4.2.2), if_neg n24, if_neg n34, if_pos rfl]⟩
  subst hn
  rw [ent_mk hX hb4 hb7 o i c1 c2 c3 c4 c5 c6] at he
  have ho : o ≠ 13 := by
    rintro rfl
    simp only [ent, hraw] at he
    split at he <;> cases he
  have hbo : bornA ad (xn Z 0 1) a0 a1 a2 a3 a4 o i = ad o i := by unfold bornA; rw [if_neg c1, if_neg c2, if_neg c3, if_neg c5, if_neg c6]
  rw [hbo]
  have h9 := hd.1 o i e (by rw [ent_raw hA hZ o i ho]; exact he)
  rw [hA o i ho] at h9
  have nn : ∀ b r, ow b = (13, r) → ad o i ≠ b := fun b r hb q => by
    have h8 := h9.2.2
    rw [q, hb] at h8
    cases h8
    exact ho rfl
  refine ⟨h9.1, h9.2.1, ?_⟩
  show (if ad o i = a0 then _ else if ad o i = a1 ∧ kd ≠ 6 then _ else if ad o i = a2 then _ else if ad o i = a3 then _ else if ad o i = a4 then _ else _) = _
  rw [if_neg (nn a0 0 r0.2.2), if_neg, if_neg (nn a2 2 r2.2.2), if_neg (nn a3 3 r3.2.2), if_neg (nn a4 4 r4.2.2)]
  · exact h9.2.2
  · intro q
    rcases r1 with h | ⟨-, e1, h, -⟩
    · exact q.2 h
    · exact nn a1 1 h.2.2 q.1
