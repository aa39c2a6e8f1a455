theorem lok_mono {V W a : Int} (h : lok V a) (hv : V ≤ W) : lok W a := by unfold lok at *; omega

theorem RI.grow9 {R : Int → Int} (h : RI R) {a : Int} (ha : 1 ≤ a ∧ a ≤ 30 - R 0) : RI (oI R 0 (R 0 + a)) := by
  have hV := h.V
  have hmy := h.many
  have hln := h.lines
  have hrf := h.ref
  have has := h.as
  have had := h.ad
  have g : ∀ j : Int, j ≠ 0 → (oI R 0 (R 0 + a)) j = R j := fun j hj => oI_n _ _ hj
  have z0 : oI R 0 (R 0 + a) 0 = R 0 + a := oI_s _ _ _
  generalize oI R 0 (R 0 + a) = R' at *
  have z1 := g 1 (by omega)
  have z2 := g 2 (by omega)
  have z3 := g 3 (by omega)
  have z4 := g 4 (by omega)
  have z5 := g 5 (by omega)
  have z6 := g 6 (by omega)
  have z7 := g 7 (by omega)
  have z14 := g 14 (by omega)
  have es : ∀ c : Int, 0 ≤ c → c < R 1 → siz R' c = siz R c := fun c c0 c1 => g _ (by omega)
  have ef : ∀ c : Int, 0 ≤ c → c < R 1 → flg R' c = flg R c := fun c c0 c1 => g _ (by omega)
  have el : ∀ c k : Int, 0 ≤ c → c < R 1 → 0 ≤ k → k < 30 → lit R' c k = lit R c k := fun c k c0 c1 k0 k1 => g _ (by omega)
  obtain ⟨h0, h1, h2, h3, h4, h5, h6, h7, h8, h9, h10, h11, h12, h13, h14, h15, h16, h17⟩ := h
  refine ⟨by rw [z0]; omega, by rw [z1]; exact h1, by rw [z2]; exact h2, by rw [z3]; exact h3, by rw [z4]; exact h4, by rw [z5]; exact h5, by rw [z6, z1, z7]; exact h6, by rw [z7]; exact h7, by rw [z14]; exact h8, ?_, ?_, ?_, ?_, ?_, ?_, ?_, ?_, ?_⟩
  · intro k k0 k1
    rw [z3] at k1
    rw [z0, g (16 + k) (by omega)]
    exact lok_mono (h9 k k0 k1) (by omega)
  · intro k k0 k1
    rw [z4] at k1
    rw [z0, g (24 + k) (by omega)]
    exact lok_mono (h10 k k0 k1) (by omega)
  · intro v v0 v1
    rw [g _ (by omega)]
    exact h11 v v0 v1
  · intro v v0 v1
    rw [g _ (by omega)]
    exact h12 v v0 v1
  · intro c c0 c1
    rw [z1] at c1
    rw [es c c0 c1, ef c c0 c1, z0]
    obtain ⟨q1, q2, q3, q4, q5⟩ := h13 c c0 c1
    exact ⟨q1, q2, q3, q4, fun k k0 k1 => by rw [el c k c0 c1 k0 (by omega)]; exact lok_mono (q5 k k0 k1) (by omega)⟩
  · intro k k0 k1
    rw [z6] at k1
    rw [g (925 + k) (by omega), z1]
    exact h14 k k0 k1
  · intro c c0 c1 i j i0 i1 j0 j1
    rw [z1] at c1
    rw [es c c0 c1] at i1 j1
    have hsz := (h13 c c0 c1).2.1
    rw [el c i c0 c1 i0 (by omega), el c j c0 c1 j0 (by omega)]
    exact h15 c c0 c1 i j i0 i1 j0 j1
  · intro i j i0 i1 j0 j1
    rw [z3] at i1 j1
    rw [g (16 + i) (by omega), g (16 + j) (by omega)]
    exact h16 i j i0 i1 j0 j1
  · intro i j i0 i1 j0 j1
    rw [z4] at i1 j1
    rw [g (24 + i) (by omega), g (24 + j) (by omega)]
    exact h17 i j i0 i1 j0 j1

theorem RI.each9 {R : Int → Int} (h : RI R) {a : Int} (ha : 0 ≤ a ∧ a ≤ 50) : RI (oI R 5 a) := by
  have hV := h.V
  have hmy := h.many
  have hln := h.lines
  have hrf := h.ref
  have has := h.as
  have had := h.ad
  have g : ∀ j : Int, j ≠ 5 → (oI R 5 a) j = R j := fun j hj => oI_n _ _ hj
  have z5 : oI R 5 a 5 = a := oI_s _ _ _
  generalize oI R 5 a = R' at *
  have z0 := g 0 (by omega)
  have z1 := g 1 (by omega)
  have z2 := g 2 (by omega)
  have z3 := g 3 (by omega)
  have z4 := g 4 (by omega)
  have z6 := g 6 (by omega)
  have z7 := g 7 (by omega)
  have z14 := g 14 (by omega)
  have es : ∀ c : Int, 0 ≤ c → c < R 1 → siz R' c = siz R c := fun c c0 c1 => g _ (by omega)
  have ef : ∀ c : Int, 0 ≤ c → c < R 1 → flg R' c = flg R c := fun c c0 c1 => g _ (by omega)
  have el : ∀ c k : Int, 0 ≤ c → c < R 1 → 0 ≤ k → k < 30 → lit R' c k = lit R c k := fun c k c0 c1 k0 k1 => g _ (by omega)
  obtain ⟨h0, h1, h2, h3, h4, h5, h6, h7, h8, h9, h10, h11, h12, h13, h14, h15, h16, h17⟩ := h
  refine ⟨by rw [z0]; exact h0, by rw [z1]; exact h1, by rw [z2]; exact h2, by rw [z3]; exact h3, by rw [z4]; exact h4, by rw [z5]; exact ha, by rw [z6, z1, z7]; exact h6, by rw [z7]; exact h7, by rw [z14]; exact h8, ?_, ?_, ?_, ?_, ?_, ?_, ?_, ?_, ?_⟩
  · intro k k0 k1
    rw [z3] at k1
    rw [z0, g (16 + k) (by omega)]
    exact h9 k k0 k1
  · intro k k0 k1
    rw [z4] at k1
    rw [z0, g (24 + k) (by omega)]
    exact h10 k k0 k1
  · intro v v0 v1
    rw [g _ (by omega)]
    exact h11 v v0 v1
  · intro v v0 v1
    rw [g _ (by omega)]
    exact h12 v v0 v1
  · intro c c0 c1
    rw [z1] at c1
    rw [es c c0 c1, ef c c0 c1, z0]
    obtain ⟨q1, q2, q3, q4, q5⟩ := h13 c c0 c1
    exact ⟨q1, q2, q3, q4, fun k k0 k1 => by rw [el c k c0 c1 k0 (by omega)]; exact q5 k k0 k1⟩
  · intro k k0 k1
    rw [z6] at k1
    rw [g (925 + k) (by omega), z1]
    exact h14 k k0 k1
  · intro c c0 c1 i j i0 i1 j0 j1
    rw [z1] at c1
    rw [es c c0 c1] at i1 j1
    have hsz := (h13 c c0 c1).2.1
    rw [el c i c0 c1 i0 (by omega), el c j c0 c1 j0 (by omega)]
    exact h15 c c0 c1 i j i0 i1 j0 j1
  · intro i j i0 i1 j0 j1
    rw [z3] at i1 j1
    rw [g (16 + i) (by omega), g (16 + j) (by omega)]
    exact h16 i j i0 i1 j0 j1
  · intro i j i0 i1 j0 j1
    rw [z4] at i1 j1
    rw [g (24 + i) (by omega), g (24 + j) (by omega)]
    exact h17 i j i0 i1 j0 j1

theorem RI.free9 {R : Int → Int} (h : RI R)  : RI (oI R 3 0) := by
  have hV := h.V
  have hmy := h.many
  have hln := h.lines
  have hrf := h.ref
  have has := h.as
  have had := h.ad
  have g : ∀ j : Int, j ≠ 3 → (oI R 3 0) j = R j := fun j hj => oI_n _ _ hj
  have z3 : oI R 3 0 3 = 0 := oI_s _ _ _
  generalize oI R 3 0 = R' at *
  have z0 := g 0 (by omega)
  have z1 := g 1 (by omega)
  have z2 := g 2 (by omega)
  have z4 := g 4 (by omega)
  have z5 := g 5 (by omega)
  have z6 := g 6 (by omega)
  have z7 := g 7 (by omega)
  have z14 := g 14 (by omega)
  have es : ∀ c : Int, 0 ≤ c → c < R 1 → siz R' c = siz R c := fun c c0 c1 => g _ (by omega)
  have ef : ∀ c : Int, 0 ≤ c → c < R 1 → flg R' c = flg R c := fun c c0 c1 => g _ (by omega)
  have el : ∀ c k : Int, 0 ≤ c → c < R 1 → 0 ≤ k → k < 30 → lit R' c k = lit R c k := fun c k c0 c1 k0 k1 => g _ (by omega)
  obtain ⟨h0, h1, h2, h3, h4, h5, h6, h7, h8, h9, h10, h11, h12, h13, h14, h15, h16, h17⟩ := h
  refine ⟨by rw [z0]; exact h0, by rw [z1]; exact h1, by rw [z2]; exact h2, by rw [z3]; omega, by rw [z4]; exact h4, by rw [z5]; exact h5, by rw [z6, z1, z7]; exact h6, by rw [z7]; exact h7, by rw [z14]; exact h8, ?_, ?_, ?_, ?_, ?_, ?_, ?_, ?_, ?_⟩
  · intro k k0 k1
    rw [z3] at k1
    omega
  · intro k k0 k1
    rw [z4] at k1
    rw [z0, g (24 + k) (by omega)]
    exact h10 k k0 k1
  · intro v v0 v1
    rw [g _ (by omega)]
    exact h11 v v0 v1
  · intro v v0 v1
    rw [g _ (by omega)]
    exact h12 v v0 v1
  · intro c c0 c1
    rw [z1] at c1
    rw [es c c0 c1, ef c c0 c1, z0]
    obtain ⟨q1, q2, q3, q4, q5⟩ := h13 c c0 c1
    exact ⟨q1, q2, q3, q4, fun k k0 k1 => by rw [el c k c0 c1 k0 (by omega)]; exact q5 k k0 k1⟩
  · intro k k0 k1
    rw [z6] at k1
    rw [g (925 + k) (by omega), z1]
    exact h14 k k0 k1
  · intro c c0 c1 i j i0 i1 j0 j1
    rw [z1] at c1
    rw [es c c0 c1] at i1 j1
    have hsz := (h13 c c0 c1).2.1
    rw [el c i c0 c1 i0 (by omega), el c j c0 c1 j0 (by omega)]
    exact h15 c c0 c1 i j i0 i1 j0 j1
  · intro i j i0 i1
    rw [z3] at i1
    omega
  · intro i j i0 i1 j0 j1
    rw [z4] at i1 j1
    rw [g (24 + i) (by omega), g (24 + j) (by omega)]
    exact h17 i j i0 i1 j0 j1

theorem RI.ad09 {R : Int → Int} (h : RI R)  : RI (oI R 4 0) := by
  have hV := h.V
  have hmy := h.many
  have hln := h.lines
  have hrf := h.ref
  have has := h.as
  have had := h.ad
  have g : ∀ j : Int, j ≠ 4 → (oI R 4 0) j = R j := fun j hj => oI_n _ _ hj
  have z4 : oI R 4 0 4 = 0 := oI_s _ _ _
  generalize oI R 4 0 = R' at *
  have z0 := g 0 (by omega)
  have z1 := g 1 (by omega)
  have z2 := g 2 (by omega)
  have z3 := g 3 (by omega)
  have z5 := g 5 (by omega)
  have z6 := g 6 (by omega)
  have z7 := g 7 (by omega)
  have z14 := g 14 (by omega)
  have es : ∀ c : Int, 0 ≤ c → c < R 1 → siz R' c = siz R c := fun c c0 c1 => g _ (by omega)
  have ef : ∀ c : Int, 0 ≤ c → c < R 1 → flg R' c = flg R c := fun c c0 c1 => g _ (by omega)
  have el : ∀ c k : Int, 0 ≤ c → c < R 1 → 0 ≤ k → k < 30 → lit R' c k = lit R c k := fun c k c0 c1 k0 k1 => g _ (by omega)
  obtain ⟨h0, h1, h2, h3, h4, h5, h6, h7, h8, h9, h10, h11, h12, h13, h14, h15, h16, h17⟩ := h
  refine ⟨by rw [z0]; exact h0, by rw [z1]; exact h1, by rw [z2]; exact h2, by rw [z3]; exact h3, by rw [z4]; omega, by rw [z5]; exact h5, by rw [z6, z1, z7]; exact h6, by rw [z7]; exact h7, by rw [z14]; exact h8, ?_, ?_, ?_, ?_, ?_, ?_, ?_, ?_, ?_⟩
  · intro k k0 k1
    rw [z3] at k1
    rw [z0, g (16 + k) (by omega)]
    exact h9 k k0 k1
  · intro k k0 k1
    rw [z4] at k1
    omega
  · intro v v0 v1
    rw [g _ (by omega)]
    exact h11 v v0 v1
  · intro v v0 v1
    rw [g _ (by omega)]
    exact h12 v v0 v1
  · intro c c0 c1
    rw [z1] at c1
    rw [es c c0 c1, ef c c0 c1, z0]
    obtain ⟨q1, q2, q3, q4, q5⟩ := h13 c c0 c1
    exact ⟨q1, q2, q3, q4, fun k k0 k1 => by rw [el c k c0 c1 k0 (by omega)]; exact q5 k k0 k1⟩
  · intro k k0 k1
    rw [z6] at k1
    rw [g (925 + k) (by omega), z1]
    exact h14 k k0 k1
  · intro c c0 c1 i j i0 i1 j0 j1
    rw [z1] at c1
    rw [es c c0 c1] at i1 j1
    have hsz := (h13 c c0 c1).2.1
    rw [el c i c0 c1 i0 (by omega), el c j c0 c1 j0 (by omega)]
    exact h15 c c0 c1 i j i0 i1 j0 j1
  · intro i j i0 i1 j0 j1
    rw [z3] at i1 j1
    rw [g (16 + i) (by omega), g (16 + j) (by omega)]
    exact h16 i j i0 i1 j0 j1
  · intro i j i0 i1
    rw [z4] at i1
    omega

theorem RI.add9 {R : Int → Int} (h : RI R) {a : Int} (ha : ¬ (R 4 = 8 ∨ ¬ lok (R 0) a ∨ thr R 24 (R 4) a)) : RI (oI (oI R (24 + R 4) a) 4 (R 4 + 1)) := by
  have hV := h.V
  have hmy := h.many
  have hln := h.lines
  have hrf := h.ref
  have has := h.as
  have had := h.ad
  have g : ∀ j : Int, (j ≠ 4 ∧ j ≠ 24 + R 4) → (oI (oI R (24 + R 4) a) 4 (R 4 + 1)) j = R j := fun j hj => by rw [oI_n _ _ hj.1, oI_n _ _ hj.2]
  have z4 : (oI (oI R (24 + R 4) a) 4 (R 4 + 1)) 4 = R 4 + 1 := oI_s _ _ _
  have zn : (oI (oI R (24 + R 4) a) 4 (R 4 + 1)) (24 + R 4) = a := by rw [oI_n _ _ (by omega), oI_s]
  have hl : lok (R 0) a := Classical.byContradiction (fun q => ha (Or.inr (Or.inl q)))
  have hnt : ∀ k : Int, 0 ≤ k → k < R 4 → iab (R (24 + k)) ≠ iab a := fun k k0 k1 e => ha (Or.inr (Or.inr ⟨k, k0, k1, e⟩))
  have h8' : R 4 ≠ 8 := fun q => ha (Or.inl q)
  generalize oI (oI R (24 + R 4) a) 4 (R 4 + 1) = R' at *
  have z0 := g 0 (by omega)
  have z1 := g 1 (by omega)
  have z2 := g 2 (by omega)
  have z3 := g 3 (by omega)
  have z5 := g 5 (by omega)
  have z6 := g 6 (by omega)
  have z7 := g 7 (by omega)
  have z14 := g 14 (by omega)
  have es : ∀ c : Int, 0 ≤ c → c < R 1 → siz R' c = siz R c := fun c c0 c1 => g _ (by omega)
  have ef : ∀ c : Int, 0 ≤ c → c < R 1 → flg R' c = flg R c := fun c c0 c1 => g _ (by omega)
  have el : ∀ c k : Int, 0 ≤ c → c < R 1 → 0 ≤ k → k < 30 → lit R' c k = lit R c k := fun c k c0 c1 k0 k1 => g _ (by omega)
  obtain ⟨h0, h1, h2, h3, h4, h5, h6, h7, h8, h9, h10, h11, h12, h13, h14, h15, h16, h17⟩ := h
  refine ⟨by rw [z0]; exact h0, by rw [z1]; exact h1, by rw [z2]; exact h2, by rw [z3]; exact h3, by rw [z4]; omega, by rw [z5]; exact h5, by rw [z6, z1, z7]; exact h6, by rw [z7]; exact h7, by rw [z14]; exact h8, ?_, ?_, ?_, ?_, ?_, ?_, ?_, ?_, ?_⟩
  · intro k k0 k1
    rw [z3] at k1
    rw [z0, g (16 + k) (by omega)]
    exact h9 k k0 k1
  · intro k k0 k1
    rw [z4] at k1
    rw [z0]
    by_cases e : k = R 4
    · rw [e, zn]; exact hl
    · rw [g (24 + k) (by omega)]; exact h10 k k0 (by omega)
  · intro v v0 v1
    rw [g _ (by omega)]
    exact h11 v v0 v1
  · intro v v0 v1
    rw [g _ (by omega)]
    exact h12 v v0 v1
  · intro c c0 c1
    rw [z1] at c1
    rw [es c c0 c1, ef c c0 c1, z0]
    obtain ⟨q1, q2, q3, q4, q5⟩ := h13 c c0 c1
    exact ⟨q1, q2, q3, q4, fun k k0 k1 => by rw [el c k c0 c1 k0 (by omega)]; exact q5 k k0 k1⟩
  · intro k k0 k1
    rw [z6] at k1
    rw [g (925 + k) (by omega), z1]
    exact h14 k k0 k1
  · intro c c0 c1 i j i0 i1 j0 j1
    rw [z1] at c1
    rw [es c c0 c1] at i1 j1
    have hsz := (h13 c c0 c1).2.1
    rw [el c i c0 c1 i0 (by omega), el c j c0 c1 j0 (by omega)]
    exact h15 c c0 c1 i j i0 i1 j0 j1
  · intro i j i0 i1 j0 j1
    rw [z3] at i1 j1
    rw [g (16 + i) (by omega), g (16 + j) (by omega)]
    exact h16 i j i0 i1 j0 j1
  · intro i j i0 i1 j0 j1
    rw [z4] at i1 j1
    by_cases e : i = R 4
    · by_cases f : j = R 4
      · intro _; omega
      · rw [e, zn, g (24 + j) (by omega)]
        intro q
        exact absurd q.symm (hnt j j0 (by omega))
    · by_cases f : j = R 4
      · rw [f, zn, g (24 + i) (by omega)]
        intro q
        exact absurd q (hnt i i0 (by omega))
      · rw [g (24 + i) (by omega), g (24 + j) (by omega)]
        exact h17 i j i0 (by omega) j0 (by omega)

theorem RI.assume9 {R : Int → Int} (h : RI R) {a : Int} (ha : ¬ (R 3 = 8 ∨ ¬ lok (R 0) a ∨ thr R 16 (R 3) a)) : RI (oI (oI R (16 + R 3) a) 3 (R 3 + 1)) := by
  have hV := h.V
  have hmy := h.many
  have hln := h.lines
  have hrf := h.ref
  have has := h.as
  have had := h.ad
  have g : ∀ j : Int, (j ≠ 3 ∧ j ≠ 16 + R 3) → (oI (oI R (16 + R 3) a) 3 (R 3 + 1)) j = R j := fun j hj => by rw [oI_n _ _ hj.1, oI_n _ _ hj.2]
  have z3 : (oI (oI R (16 + R 3) a) 3 (R 3 + 1)) 3 = R 3 + 1 := oI_s _ _ _
  have zn : (oI (oI R (16 + R 3) a) 3 (R 3 + 1)) (16 + R 3) = a := by rw [oI_n _ _ (by omega), oI_s]
  have hl : lok (R 0) a := Classical.byContradiction (fun q => ha (Or.inr (Or.inl q)))
  have hnt : ∀ k : Int, 0 ≤ k → k < R 3 → iab (R (16 + k)) ≠ iab a := fun k k0 k1 e => ha (Or.inr (Or.inr ⟨k, k0, k1, e⟩))
  have h8' : R 3 ≠ 8 := fun q => ha (Or.inl q)
  generalize oI (oI R (16 + R 3) a) 3 (R 3 + 1) = R' at *
  have z0 := g 0 (by omega)
  have z1 := g 1 (by omega)
  have z2 := g 2 (by omega)
  have z4 := g 4 (by omega)
  have z5 := g 5 (by omega)
  have z6 := g 6 (by omega)
  have z7 := g 7 (by omega)
  have z14 := g 14 (by omega)
  have es : ∀ c : Int, 0 ≤ c → c < R 1 → siz R' c = siz R c := fun c c0 c1 => g _ (by omega)
  have ef : ∀ c : Int, 0 ≤ c → c < R 1 → flg R' c = flg R c := fun c c0 c1 => g _ (by omega)
  have el : ∀ c k : Int, 0 ≤ c → c < R 1 → 0 ≤ k → k < 30 → lit R' c k = lit R c k := fun c k c0 c1 k0 k1 => g _ (by omega)
  obtain ⟨h0, h1, h2, h3, h4, h5, h6, h7, h8, h9, h10, h11, h12, h13, h14, h15, h16, h17⟩ := h
  refine ⟨by rw [z0]; exact h0, by rw [z1]; exact h1, by rw [z2]; exact h2, by rw [z3]; omega, by rw [z4]; exact h4, by rw [z5]; exact h5, by rw [z6, z1, z7]; exact h6, by rw [z7]; exact h7, by rw [z14]; exact h8, ?_, ?_, ?_, ?_, ?_, ?_, ?_, ?_, ?_⟩
  · intro k k0 k1
    rw [z3] at k1
    rw [z0]
    by_cases e : k = R 3
    · rw [e, zn]; exact hl
    · rw [g (16 + k) (by omega)]; exact h9 k k0 (by omega)
  · intro k k0 k1
    rw [z4] at k1
    rw [z0, g (24 + k) (by omega)]
    exact h10 k k0 k1
  · intro v v0 v1
    rw [g _ (by omega)]
    exact h11 v v0 v1
  · intro v v0 v1
    rw [g _ (by omega)]
    exact h12 v v0 v1
  · intro c c0 c1
    rw [z1] at c1
    rw [es c c0 c1, ef c c0 c1, z0]
    obtain ⟨q1, q2, q3, q4, q5⟩ := h13 c c0 c1
    exact ⟨q1, q2, q3, q4, fun k k0 k1 => by rw [el c k c0 c1 k0 (by omega)]; exact q5 k k0 k1⟩
  · intro k k0 k1
    rw [z6] at k1
    rw [g (925 + k) (by omega), z1]
    exact h14 k k0 k1
  · intro c c0 c1 i j i0 i1 j0 j1
    rw [z1] at c1
    rw [es c c0 c1] at i1 j1
    have hsz := (h13 c c0 c1).2.1
    rw [el c i c0 c1 i0 (by omega), el c j c0 c1 j0 (by omega)]
    exact h15 c c0 c1 i j i0 i1 j0 j1
  · intro i j i0 i1 j0 j1
    rw [z3] at i1 j1
    by_cases e : i = R 3
    · by_cases f : j = R 3
      · intro _; omega
      · rw [e, zn, g (16 + j) (by omega)]
        intro q
        exact absurd q.symm (hnt j j0 (by omega))
    · by_cases f : j = R 3
      · rw [f, zn, g (16 + i) (by omega)]
        intro q
        exact absurd q (hnt i i0 (by omega))
      · rw [g (16 + i) (by omega), g (16 + j) (by omega)]
        exact h16 i j i0 (by omega) j0 (by omega)
  · intro i j i0 i1 j0 j1
    rw [z4] at i1 j1
    rw [g (24 + i) (by omega), g (24 + j) (by omega)]
    exact h17 i j i0 i1 j0 j1

theorem RI.clause9 {R : Int → Int} (h : RI R) {n : Int} {f : Int → Int} (hn : 1 ≤ n ∧ n ≤ 30) (h2 : R 2 < 80) (hm : R 1 < 400) (hf : ∀ k : Int, 0 ≤ k → k < n → lok (R 0) (f k)) (hd : ∀ i j : Int, 0 ≤ i → i < n → 0 ≤ j → j < n → iab (f i) = iab (f j) → i = j) : RI (putL (bgR R 0 n) (R 1) n f) := by
  have hV := h.V
  have hmy := h.many
  have hln := h.lines
  have hrf := h.ref
  have has := h.as
  have had := h.ad
  have g : ∀ j : Int, (j ≠ 1 ∧ j ≠ 2 ∧ j ≠ 125 + R 1 ∧ j ≠ 525 + R 1 ∧ (j < 1326 + 30 * R 1 ∨ 1326 + 30 * R 1 + n ≤ j)) → (putL (bgR R 0 n) (R 1) n f) j = R j := fun j hj => by rw [putL_n hj.2.2.2.2]; unfold bgR; rw [oI_n _ _ hj.2.1, oI_n _ _ hj.1, oI_n _ _ hj.2.2.1, oI_n _ _ hj.2.2.2.1]
  have z1 : (putL (bgR R 0 n) (R 1) n f) 1 = R 1 + 1 := by rw [putL_n (by omega)]; unfold bgR; rw [oI_n _ _ (by omega), oI_s]
  have z2 : (putL (bgR R 0 n) (R 1) n f) 2 = R 2 + 1 := by rw [putL_n (by omega)]; unfold bgR; rw [oI_s, if_pos rfl]
  have zs : siz (putL (bgR R 0 n) (R 1) n f) (R 1) = n := by unfold siz; rw [putL_n (by omega)]; unfold bgR; rw [oI_n _ _ (by omega), oI_n _ _ (by omega), oI_s]
  have zf : flg (putL (bgR R 0 n) (R 1) n f) (R 1) = 0 := by unfold flg; rw [putL_n (by omega)]; unfold bgR; rw [oI_n _ _ (by omega), oI_n _ _ (by omega), oI_n _ _ (by omega), oI_s]
  have zl : ∀ k : Int, 0 ≤ k → k < n → lit (putL (bgR R 0 n) (R 1) n f) (R 1) k = f k := fun k k0 k1 => by unfold lit putL; rw [if_pos (by omega), show 1326 + 30 * R 1 + k - (1326 + 30 * R 1) = k by omega]
  generalize putL (bgR R 0 n) (R 1) n f = R' at *
  have z0 := g 0 (by omega)
  have z3 := g 3 (by omega)
  have z4 := g 4 (by omega)
  have z5 := g 5 (by omega)
  have z6 := g 6 (by omega)
  have z7 := g 7 (by omega)
  have z14 := g 14 (by omega)
  have es : ∀ c : Int, 0 ≤ c → c < R 1 → siz R' c = siz R c := fun c c0 c1 => g _ (by omega)
  have ef : ∀ c : Int, 0 ≤ c → c < R 1 → flg R' c = flg R c := fun c c0 c1 => g _ (by omega)
  have el : ∀ c k : Int, 0 ≤ c → c < R 1 → 0 ≤ k → k < 30 → lit R' c k = lit R c k := fun c k c0 c1 k0 k1 => g _ (by omega)
  obtain ⟨h0, h1, h2, h3, h4, h5, h6, h7, h8, h9, h10, h11, h12, h13, h14, h15, h16, h17⟩ := h
  refine ⟨by rw [z0]; exact h0, by rw [z1]; omega, by rw [z2]; omega, by rw [z3]; exact h3, by rw [z4]; exact h4, by rw [z5]; exact h5, by rw [z6, z1, z7]; omega, by rw [z7]; exact h7, by rw [z14]; exact h8, ?_, ?_, ?_, ?_, ?_, ?_, ?_, ?_, ?_⟩
  · intro k k0 k1
    rw [z3] at k1
    rw [z0, g (16 + k) (by omega)]
    exact h9 k k0 k1
  · intro k k0 k1
    rw [z4] at k1
    rw [z0, g (24 + k) (by omega)]
    exact h10 k k0 k1
  · intro v v0 v1
    rw [g _ (by omega)]
    exact h11 v v0 v1
  · intro v v0 v1
    rw [g _ (by omega)]
    exact h12 v v0 v1
  · intro c c0 c1
    rw [z1] at c1
    rw [z0]
    by_cases ec : c = R 1
    · rw [ec, zs, zf]
      exact ⟨hn.1, hn.2, by omega, by omega, fun k k0 k1 => by rw [zl k k0 k1]; exact hf k k0 k1⟩
    · rw [es c c0 (by omega), ef c c0 (by omega)]
      obtain ⟨q1, q2, q3, q4, q5⟩ := h13 c c0 (by omega)
      exact ⟨q1, q2, q3, q4, fun k k0 k1 => by rw [el c k c0 (by omega) k0 (by omega)]; exact q5 k k0 k1⟩
  · intro k k0 k1
    rw [z6] at k1
    rw [g (925 + k) (by omega), z1]
    have := h14 k k0 k1
    omega
  · intro c c0 c1 i j i0 i1 j0 j1
    rw [z1] at c1
    by_cases ec : c = R 1
    · rw [ec, zs] at i1 j1
      rw [ec, zl i i0 i1, zl j j0 j1]
      exact hd i j i0 i1 j0 j1
    · rw [es c c0 (by omega)] at i1 j1
      have hsz := (h13 c c0 (by omega)).2.1
      rw [el c i c0 (by omega) i0 (by omega), el c j c0 (by omega) j0 (by omega)]
      exact h15 c c0 (by omega) i j i0 i1 j0 j1
  · intro i j i0 i1 j0 j1
    rw [z3] at i1 j1
    rw [g (16 + i) (by omega), g (16 + j) (by omega)]
    exact h16 i j i0 i1 j0 j1
  · intro i j i0 i1 j0 j1
    rw [z4] at i1 j1
    rw [g (24 + i) (by omega), g (24 + j) (by omega)]
    exact h17 i j i0 i1 j0 j1

theorem RI.forget9 {R : Int → Int} (h : RI R) (a i : Int) (hi : 0 ≤ i ∧ i ≤ R 1) : RI (fgR R a i) := by
  have hV := h.V
  have hmy := h.many
  have hln := h.lines
  have hrf := h.ref
  have has := h.as
  have had := h.ad
  have g : ∀ j : Int, (j < 525 ∨ 925 ≤ j) → (fgR R a i) j = R j := fun j hj => if_neg (by omega)
  have gf : ∀ c : Int, 0 ≤ c → c < R 1 → flg (fgR R a i) c = flg R c ∨ flg (fgR R a i) c = 3 := fun c c0 c1 => by
    show (if _ then _ else _) = _ ∨ (if _ then _ else _) = _
    split
    · exact Or.inr rfl
    · exact Or.inl rfl
  generalize fgR R a i = R' at *
  have z0 := g 0 (by omega)
  have z1 := g 1 (by omega)
  have z2 := g 2 (by omega)
  have z3 := g 3 (by omega)
  have z4 := g 4 (by omega)
  have z5 := g 5 (by omega)
  have z6 := g 6 (by omega)
  have z7 := g 7 (by omega)
  have z14 := g 14 (by omega)
  obtain ⟨h0, h1, h2, h3, h4, h5, h6, h7, h8, h9, h10, h11, h12, h13, h14, h15, h16, h17⟩ := h
  refine ⟨by rw [z0]; exact h0, by rw [z1]; exact h1, by rw [z2]; exact h2, by rw [z3]; exact h3, by rw [z4]; exact h4, by rw [z5]; exact h5, by rw [z6, z1, z7]; exact h6, by rw [z7]; exact h7, by rw [z14]; exact h8, ?_, ?_, ?_, ?_, ?_, ?_, ?_, ?_, ?_⟩
  · intro k k0 k1
    rw [z3] at k1
    rw [z0, g (16 + k) (by omega)]
    exact h9 k k0 k1
  · intro k k0 k1
    rw [z4] at k1
    rw [z0, g (24 + k) (by omega)]
    exact h10 k k0 k1
  · intro v v0 v1
    rw [g _ (by omega)]
    exact h11 v v0 v1
  · intro v v0 v1
    rw [g _ (by omega)]
    exact h12 v v0 v1
  · intro c c0 c1
    rw [z1] at c1
    have es : siz R' c = siz R c := g _ (by omega)
    have el : ∀ k : Int, 0 ≤ k → lit R' c k = lit R c k := fun k k0 => g _ (by omega)
    rw [es, z0]
    obtain ⟨q1, q2, q3, q4, q5⟩ := h13 c c0 c1
    have q9 := gf c c0 c1
    exact ⟨q1, q2, by omega, by omega, fun k k0 k1 => by rw [el k k0]; exact q5 k k0 k1⟩
  · intro k k0 k1
    rw [z6] at k1
    rw [g (925 + k) (by omega), z1]
    exact h14 k k0 k1
  · intro c c0 c1 i j i0 i1 j0 j1
    rw [z1] at c1
    have es : siz R' c = siz R c := g _ (by omega)
    have el : ∀ k : Int, 0 ≤ k → lit R' c k = lit R c k := fun k k0 => g _ (by omega)
    rw [es] at i1 j1
    rw [el i i0, el j j0]
    exact h15 c c0 c1 i j i0 i1 j0 j1
  · intro i j i0 i1 j0 j1
    rw [z3] at i1 j1
    rw [g (16 + i) (by omega), g (16 + j) (by omega)]
    exact h16 i j i0 i1 j0 j1
  · intro i j i0 i1 j0 j1
    rw [z4] at i1 j1
    rw [g (24 + i) (by omega), g (24 + j) (by omega)]
    exact h17 i j i0 i1 j0 j1

theorem RI.asR9 {R : Int → Int} (h : RI R) {n : Int} {f : Int → Int} (hn : 0 ≤ n ∧ n ≤ 8) (hf : ∀ k : Int, 0 ≤ k → k < n → lok (R 0) (f k)) (hd : ∀ i j : Int, 0 ≤ i → i < n → 0 ≤ j → j < n → iab (f i) = iab (f j) → i = j) : RI (asR (oI R 3 n) n f) := by
  have hV := h.V
  have hmy := h.many
  have hln := h.lines
  have hrf := h.ref
  have has := h.as
  have had := h.ad
  have g : ∀ j : Int, (j ≠ 3 ∧ (j < 16 ∨ 16 + n ≤ j)) → (asR (oI R 3 n) n f) j = R j := fun j hj => by unfold asR; rw [if_neg (by omega), oI_n _ _ hj.1]
  have z3 : (asR (oI R 3 n) n f) 3 = n := by unfold asR; rw [if_neg (by omega), oI_s]
  have zl : ∀ k : Int, 0 ≤ k → k < n → (asR (oI R 3 n) n f) (16 + k) = f k := fun k k0 k1 => by unfold asR; rw [if_pos (by omega), show 16 + k - 16 = k by omega]
  generalize asR (oI R 3 n) n f = R' at *
  have z0 := g 0 (by omega)
  have z1 := g 1 (by omega)
  have z2 := g 2 (by omega)
  have z4 := g 4 (by omega)
  have z5 := g 5 (by omega)
  have z6 := g 6 (by omega)
  have z7 := g 7 (by omega)
  have z14 := g 14 (by omega)
  have es : ∀ c : Int, 0 ≤ c → c < R 1 → siz R' c = siz R c := fun c c0 c1 => g _ (by omega)
  have ef : ∀ c : Int, 0 ≤ c → c < R 1 → flg R' c = flg R c := fun c c0 c1 => g _ (by omega)
  have el : ∀ c k : Int, 0 ≤ c → c < R 1 → 0 ≤ k → k < 30 → lit R' c k = lit R c k := fun c k c0 c1 k0 k1 => g _ (by omega)
  obtain ⟨h0, h1, h2, h3, h4, h5, h6, h7, h8, h9, h10, h11, h12, h13, h14, h15, h16, h17⟩ := h
  refine ⟨by rw [z0]; exact h0, by rw [z1]; exact h1, by rw [z2]; exact h2, by rw [z3]; exact hn, by rw [z4]; exact h4, by rw [z5]; exact h5, by rw [z6, z1, z7]; exact h6, by rw [z7]; exact h7, by rw [z14]; exact h8, ?_, ?_, ?_, ?_, ?_, ?_, ?_, ?_, ?_⟩
  · intro k k0 k1
    rw [z3] at k1
    rw [z0, zl k k0 k1]
    exact hf k k0 k1
  · intro k k0 k1
    rw [z4] at k1
    rw [z0, g (24 + k) (by omega)]
    exact h10 k k0 k1
  · intro v v0 v1
    rw [g _ (by omega)]
    exact h11 v v0 v1
  · intro v v0 v1
    rw [g _ (by omega)]
    exact h12 v v0 v1
  · intro c c0 c1
    rw [z1] at c1
    rw [es c c0 c1, ef c c0 c1, z0]
    obtain ⟨q1, q2, q3, q4, q5⟩ := h13 c c0 c1
    exact ⟨q1, q2, q3, q4, fun k k0 k1 => by rw [el c k c0 c1 k0 (by omega)]; exact q5 k k0 k1⟩
  · intro k k0 k1
    rw [z6] at k1
    rw [g (925 + k) (by omega), z1]
    exact h14 k k0 k1
  · intro c c0 c1 i j i0 i1 j0 j1
    rw [z1] at c1
    rw [es c c0 c1] at i1 j1
    have hsz := (h13 c c0 c1).2.1
    rw [el c i c0 c1 i0 (by omega), el c j c0 c1 j0 (by omega)]
    exact h15 c c0 c1 i j i0 i1 j0 j1
  · intro i j i0 i1 j0 j1
    rw [z3] at i1 j1
    rw [zl i i0 i1, zl j j0 j1]
    exact hd i j i0 i1 j0 j1
  · intro i j i0 i1 j0 j1
    rw [z4] at i1 j1
    rw [g (24 + i) (by omega), g (24 + j) (by omega)]
    exact h17 i j i0 i1 j0 j1

/-- rows that agree where the row is -/
theorem RI.cong {R R' : Int → Int} (h : RI R) (g : ∀ j : Int, 0 ≤ j → j < 13326 → R' j = R j) : RI R' := by
  have hmy := h.many
  have hln := h.lines
  have hrf := h.ref
  have has := h.as
  have had := h.ad
  have z0 := g 0 (by omega) (by omega)
  have z1 := g 1 (by omega) (by omega)
  have z2 := g 2 (by omega) (by omega)
  have z3 := g 3 (by omega) (by omega)
  have z4 := g 4 (by omega) (by omega)
  have z5 := g 5 (by omega) (by omega)
  have z6 := g 6 (by omega) (by omega)
  have z7 := g 7 (by omega) (by omega)
  have z14 := g 14 (by omega) (by omega)
  have es : ∀ c : Int, 0 ≤ c → c < R 1 → siz R' c = siz R c := fun c c0 c1 => g _ (by omega) (by omega)
  have ef : ∀ c : Int, 0 ≤ c → c < R 1 → flg R' c = flg R c := fun c c0 c1 => g _ (by omega) (by omega)
  have el : ∀ c k : Int, 0 ≤ c → c < R 1 → 0 ≤ k → k < 30 → lit R' c k = lit R c k := fun c k c0 c1 k0 k1 => g _ (by omega) (by omega)
  obtain ⟨h0, h1, h2, h3, h4, h5, h6, h7, h8, h9, h10, h11, h12, h13, h14, h15, h16, h17⟩ := h
  refine ⟨by rw [z0]; exact h0, by rw [z1]; exact h1, by rw [z2]; exact h2, by rw [z3]; exact h3, by rw [z4]; exact h4, by rw [z5]; exact h5, by rw [z6, z1, z7]; exact h6, by rw [z7]; exact h7, by rw [z14]; exact h8, ?_, ?_, ?_, ?_, ?_, ?_, ?_, ?_, ?_⟩
  · intro k k0 k1
    rw [z3] at k1
    rw [z0, g (16 + k) (by omega) (by omega)]
    exact h9 k k0 k1
  · intro k k0 k1
    rw [z4] at k1
    rw [z0, g (24 + k) (by omega) (by omega)]
    exact h10 k k0 k1
  · intro v v0 v1
    rw [g _ (by omega) (by omega)]
    exact h11 v v0 v1
  · intro v v0 v1
    rw [g _ (by omega) (by omega)]
    exact h12 v v0 v1
  · intro c c0 c1
    rw [z1] at c1
    rw [es c c0 c1, ef c c0 c1, z0]
    obtain ⟨q1, q2, q3, q4, q5⟩ := h13 c c0 c1
    exact ⟨q1, q2, q3, q4, fun k k0 k1 => by rw [el c k c0 c1 k0 (by omega)]; exact q5 k k0 k1⟩
  · intro k k0 k1
    rw [z6] at k1
    rw [g (925 + k) (by omega) (by omega), z1]
    exact h14 k k0 k1
  · intro c c0 c1 i j i0 i1 j0 j1
    rw [z1] at c1
    rw [es c c0 c1] at i1 j1
    have hsz := (h13 c c0 c1).2.1
    rw [el c i c0 c1 i0 (by omega), el c j c0 c1 j0 (by omega)]
    exact h15 c c0 c1 i j i0 i1 j0 j1
  · intro i j i0 i1 j0 j1
    rw [z3] at i1 j1
    rw [g (16 + i) (by omega) (by omega), g (16 + j) (by omega) (by omega)]
    exact h16 i j i0 i1 j0 j1
  · intro i j i0 i1 j0 j1
    rw [z4] at i1 j1
    rw [g (24 + i) (by omega) (by omega), g (24 + j) (by omega) (by omega)]
    exact h17 i j i0 i1 j0 j1
