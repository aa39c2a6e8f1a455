/-! THE TRAIL's LAWS (no program in sight) -/
/-- how many of the first n variables have a value -/
def asg (s : Int → Int) : Nat → Int
  | 0 => 0
  | n + 1 => asg s n + (if s ((n : Int) + 1) = 0 then 0 else 1)
theorem asg_rg (s : Int → Int) : ∀ n : Nat, 0 ≤ asg s n ∧ asg s n ≤ n
  | 0 => by simp [asg]
  | n + 1 => by
    have := asg_rg s n
    unfold asg
    split <;> omega
theorem asg_lt {s : Int → Int} {v : Int} : ∀ n : Nat, 1 ≤ v → v ≤ n → s v = 0 → asg s n < n
  | 0, h1, h2, _ => by omega
  | n + 1, h1, h2, h3 => by
    unfold asg
    by_cases e : v = (n : Int) + 1
    · have := asg_rg s n
      rw [← e, if_pos h3]
      omega
    · have := asg_lt n h1 (by omega) h3
      split <;> omega
theorem asg_o {s : Int → Int} {v w : Int} : ∀ n : Nat, asg (oI s v w) n = asg s n + (if 1 ≤ v ∧ v ≤ n then (if w = 0 then 0 else 1) - (if s v = 0 then 0 else 1) else 0)
  | 0 => by simp only [asg]; rw [if_neg (by omega)]; rfl
  | n + 1 => by
    rw [asg, asg, asg_o n]
    by_cases e : (n : Int) + 1 = v
    · subst e
      rw [oI_s, if_neg (show ¬ (1 ≤ (n : Int) + 1 ∧ (n : Int) + 1 ≤ (n : Int)) by omega), if_pos (show 1 ≤ (n : Int) + 1 ∧ (n : Int) + 1 ≤ ((n + 1 : Nat) : Int) by omega)]
      (repeat' split) <;> omega
    · rw [oI_n _ _ e]
      by_cases e2 : 1 ≤ v ∧ v ≤ (n : Int)
      · rw [if_pos e2, if_pos (show 1 ≤ v ∧ v ≤ ((n + 1 : Nat) : Int) by omega)]
        (repeat' split) <;> omega
      · rw [if_neg e2, if_neg (show ¬ (1 ≤ v ∧ v ≤ ((n + 1 : Nat) : Int)) by omega)]
        (repeat' split) <;> omega
/-- a literal's sign -/
def sg9 (l : Int) : Int := if 0 < l then 1 else -1
/-- the trail holds just the variables that have a value, each at its place -/
def T0 (M : Mt) : Prop := M 10 0 = asg (M 5) (M 1 0).toNat ∧ (∀ p : Int, 0 ≤ p → p < M 10 0 → lok (M 1 0) (M 9 p) ∧ M 5 (iab (M 9 p)) = sg9 (M 9 p) ∧ M 8 (iab (M 9 p)) = p) ∧ (∀ v : Int, 1 ≤ v → v ≤ M 1 0 → M 5 v ≠ 0 → 0 ≤ M 8 v ∧ M 8 v < M 10 0 ∧ iab (M 9 (M 8 v)) = v)
theorem T0.at {M : Mt} (h : T0 M) {p : Int} (h0 : 0 ≤ p) (h1 : p < M 10 0) : lok (M 1 0) (M 9 p) ∧ M 5 (iab (M 9 p)) = sg9 (M 9 p) ∧ M 8 (iab (M 9 p)) = p := h.2.1 p h0 h1
theorem T0.of {M : Mt} (h : T0 M) {v : Int} (h0 : 1 ≤ v) (h1 : v ≤ M 1 0) (h2 : M 5 v ≠ 0) : 0 ≤ M 8 v ∧ M 8 v < M 10 0 ∧ iab (M 9 (M 8 v)) = v := h.2.2 v h0 h1 h2
theorem T0.n {M : Mt} (h : T0 M) (hV : 0 ≤ M 1 0) : 0 ≤ M 10 0 ∧ M 10 0 ≤ M 1 0 := by
  have := asg_rg (M 5) (M 1 0).toNat
  rw [h.1]; omega
theorem T0.lt {M : Mt} (h : T0 M) (hV : 0 ≤ M 1 0) {v : Int} (h0 : 1 ≤ v) (h1 : v ≤ M 1 0) (h2 : M 5 v = 0) : M 10 0 < M 1 0 := by
  have := asg_lt (s := M 5) (v := v) (M 1 0).toNat h0 (by omega) h2
  rw [h.1]; omega
theorem sg9_ne (l : Int) : sg9 l ≠ 0 := by unfold sg9; split <;> omega
/-- reads of what has come -/
theorem cm_5 (M : Mt) (l w : Int) : cmM M l w 5 = oI (M 5) (iab l) (sg9 l) := rfl
theorem cm_6 (M : Mt) (l w : Int) : cmM M l w 6 = oI (M 6) (iab l) (M 11 0) := rfl
theorem cm_7 (M : Mt) (l w : Int) : cmM M l w 7 = oI (M 7) (iab l) w := rfl
theorem cm_8 (M : Mt) (l w : Int) : cmM M l w 8 = oI (M 8) (iab l) (M 10 0) := rfl
theorem cm_9 (M : Mt) (l w : Int) : cmM M l w 9 = oI (M 9) (M 10 0) l := rfl
theorem cm_10 (M : Mt) (l w : Int) : cmM M l w 10 0 = M 10 0 + 1 := rfl
theorem cm_q (M : Mt) (l w : Int) {q : Nat} (h5 : q ≠ 5) (h6 : q ≠ 6) (h7 : q ≠ 7) (h8 : q ≠ 8) (h9 : q ≠ 9) (h10 : q ≠ 10) : cmM M l w q = M q := by
  unfold cmM
  rw [oM_n _ _ _ h10, oM_n _ _ _ h9, oM_n _ _ _ h8, oM_n _ _ _ h7, oM_n _ _ _ h6, oM_n _ _ _ h5]
theorem T0.cm {M : Mt} (h : T0 M) {l : Int} (w : Int) (hV : 0 ≤ M 1 0) (hl : lok (M 1 0) l) (h0 : M 5 (iab l) = 0) : T0 (cmM M l w) := by
  have hi := iab_lok hl
  obtain ⟨h1, h2, h3⟩ := h
  have hn := asg_rg (M 5) (M 1 0).toNat
  refine ⟨?_, ?_, ?_⟩
  · show M 10 0 + 1 = asg (oI (M 5) (iab l) (sg9 l)) (M 1 0).toNat
    rw [asg_o, if_pos (by omega), if_neg (sg9_ne l), if_pos h0, h1]
    omega
  · intro p p0 p1
    show lok (M 1 0) (oI (M 9) (M 10 0) l p) ∧ oI (M 5) (iab l) (sg9 l) (iab (oI (M 9) (M 10 0) l p)) = sg9 (oI (M 9) (M 10 0) l p) ∧ oI (M 8) (iab l) (M 10 0) (iab (oI (M 9) (M 10 0) l p)) = p
    rw [cm_10] at p1
    by_cases e : p = M 10 0
    · rw [e, oI_s, oI_s, oI_s]
      exact ⟨hl, rfl, rfl⟩
    · rw [oI_n _ _ e]
      obtain ⟨a, b, c⟩ := h2 p p0 (by omega)
      have hne : iab (M 9 p) ≠ iab l := fun q => by rw [q, h0] at b; exact sg9_ne _ b.symm
      rw [oI_n _ _ hne, oI_n _ _ hne]
      exact ⟨a, b, c⟩
  · intro v v0 v1
    show oI (M 5) (iab l) (sg9 l) v ≠ 0 → 0 ≤ oI (M 8) (iab l) (M 10 0) v ∧ oI (M 8) (iab l) (M 10 0) v < M 10 0 + 1 ∧ iab (oI (M 9) (M 10 0) l (oI (M 8) (iab l) (M 10 0) v)) = v
    by_cases e : v = iab l
    · rw [e, oI_s, oI_s, oI_s]
      intro _
      exact ⟨by omega, by omega, rfl⟩
    · rw [oI_n _ _ e, oI_n _ _ e]
      intro q
      obtain ⟨a, b, c⟩ := h3 v v0 v1 q
      rw [oI_n _ _ (show M 8 v ≠ M 10 0 by omega)]
      exact ⟨a, by omega, c⟩
theorem T0.emp {M : Mt} (hV : 0 ≤ M 1 0 ∧ M 1 0 ≤ 30) : T0 (empM M) := by
  have key : ∀ n : Nat, (n : Int) ≤ 30 → asg (fun v => if 0 ≤ v ∧ v < 31 then 0 else M 5 v) n = 0 := by
    intro n
    induction n with
    | zero => intro _; rfl
    | succ n ih =>
      intro hn
      rw [asg, ih (by omega), if_pos (by rw [if_pos (by omega)])]
      rfl
  refine ⟨?_, ?_, ?_⟩
  · show (0 : Int) = asg (fun v => if 0 ≤ v ∧ v < 31 then 0 else M 5 v) (M 1 0).toNat
    rw [key _ (by omega)]
  · intro p p0 p1
    have : p < 0 := p1
    omega
  · intro v v0 v1 q
    have v1' : v ≤ M 1 0 := v1
    exact absurd (show (if 0 ≤ v ∧ v < 31 then 0 else M 5 v) = 0 from if_pos (by omega)) q
/-- the last one goes -/
theorem T0.pop {M : Mt} (h : T0 M) (hV : 0 ≤ M 1 0) (hn : 0 < M 10 0) : T0 (popM M) := by
  obtain ⟨h1, h2, h3⟩ := h
  obtain ⟨a, b, c⟩ := h2 (M 10 0 - 1) (by omega) (by omega)
  have hi := iab_lok a
  have hR0 : popM M 1 0 = M 1 0 := oI_n _ _ (by omega)
  refine ⟨?_, ?_, ?_⟩
  · show M 10 0 - 1 = asg (oI (M 5) (iab (M 9 (M 10 0 - 1))) 0) (popM M 1 0).toNat
    rw [hR0, asg_o, if_pos (by omega), if_pos rfl, if_neg (by rw [b]; exact sg9_ne _), ← h1]
    omega
  · intro p p0 p1
    rw [hR0]
    have p1' : p < M 10 0 - 1 := p1
    show lok (M 1 0) (M 9 p) ∧ oI (M 5) (iab (M 9 (M 10 0 - 1))) 0 (iab (M 9 p)) = sg9 (M 9 p) ∧ M 8 (iab (M 9 p)) = p
    obtain ⟨a2, b2, c2⟩ := h2 p p0 (by omega)
    rw [oI_n _ _ (fun q => by rw [q] at c2; omega)]
    exact ⟨a2, b2, c2⟩
  · intro v v0 v1
    rw [hR0] at v1
    show oI (M 5) (iab (M 9 (M 10 0 - 1))) 0 v ≠ 0 → 0 ≤ M 8 v ∧ M 8 v < M 10 0 - 1 ∧ iab (M 9 (M 8 v)) = v
    by_cases e : v = iab (M 9 (M 10 0 - 1))
    · rw [e, oI_s]
      intro q
      exact absurd rfl q
    · rw [oI_n _ _ e]
      intro q
      obtain ⟨a2, b2, c2⟩ := h3 v v0 v1 q
      refine ⟨a2, ?_, c2⟩
      by_cases f : M 8 v = M 10 0 - 1
      · rw [f] at c2
        exact absurd c2.symm e
      · omega
/-- the trail's working numbers stay in their ranges -/
theorem TR.cm {M : Mt} (h : TR M) {l w : Int} (hl : lok 30 l) (hn : M 10 0 < 30) (hw : -1 ≤ w ∧ w < 400) : TR (cmM M l w) := by
  obtain ⟨h1, h2, h3, h4, h5, h6, h7, h8⟩ := h
  have hi := iab_lok hl
  refine ⟨?_, h2, ?_, ?_, ?_, ?_, ?_, h8⟩
  · rw [cm_10]; omega
  · intro v v0 v1
    rw [cm_5]; unfold oI sg9
    split
    · split <;> omega
    · exact h3 v v0 v1
  · intro v v0 v1
    rw [cm_6]; unfold oI
    split
    · exact h2
    · exact h4 v v0 v1
  · intro v v0 v1
    rw [cm_7]; unfold oI
    split
    · exact hw
    · exact h5 v v0 v1
  · intro v v0 v1
    rw [cm_8]; unfold oI
    split
    · exact h1
    · exact h6 v v0 v1
  · intro p p0 p1
    rw [cm_9]; unfold oI lok at *
    split
    · omega
    · exact h7 p p0 p1
theorem TR.pop {M : Mt} (h : TR M) (hn : 0 < M 10 0) : TR (popM M) := by
  obtain ⟨h1, h2, h3, h4, h5, h6, h7, h8⟩ := h
  refine ⟨?_, h2, ?_, h4, h5, h6, h7, h8⟩
  · show 0 ≤ M 10 0 - 1 ∧ M 10 0 - 1 ≤ 30
    omega
  · intro v v0 v1
    show -1 ≤ oI (M 5) (iab (M 9 (M 10 0 - 1))) 0 v ∧ oI (M 5) (iab (M 9 (M 10 0 - 1))) 0 v ≤ 1
    unfold oI
    split
    · omega
    · exact h3 v v0 v1
theorem TR.emp {M : Mt} (h : TR M) : TR (empM M) := by
  obtain ⟨h1, h2, h3, h4, h5, h6, h7, h8⟩ := h
  refine ⟨?_, ?_, ?_, h4, h5, h6, h7, h8⟩
  · show 0 ≤ (0 : Int) ∧ (0 : Int) ≤ 30
    omega
  · show 0 ≤ (0 : Int) ∧ (0 : Int) ≤ 30
    omega
  · intro v v0 v1
    show -1 ≤ (if 0 ≤ v ∧ v < 31 then 0 else M 5 v) ∧ (if 0 ≤ v ∧ v < 31 then 0 else M 5 v) ≤ 1
    rw [if_pos (by omega)]
    omega

/-! counts, clauses that are false or of one open literal -/
theorem cnt_0 {f : Int → Int} {v : Int} : ∀ n : Nat, cnt f v n = 0 → ∀ k : Int, 0 ≤ k → k < n → f k ≠ v
  | 0, _, k, h0, h1 => by omega
  | n + 1, h, k, h0, h1 => by
    have hr := cnt_rg f v n
    unfold cnt at h
    split at h
    · omega
    · rename_i q
      by_cases e : k = n
      · rw [e]; exact q
      · exact cnt_0 n (by omega) k h0 (by omega)
theorem cnt_1 {f : Int → Int} {v : Int} : ∀ n : Nat, cnt f v n = 1 → ∃ k : Int, 0 ≤ k ∧ k < n ∧ f k = v ∧ ∀ i : Int, 0 ≤ i → i < n → i ≠ k → f i ≠ v
  | 0, h => by simp [cnt] at h
  | n + 1, h => by
    unfold cnt at h
    split at h
    · rename_i q
      have hz := cnt_0 (f := f) (v := v) n (by omega)
      exact ⟨n, by omega, by omega, q, fun i i0 i1 i2 => hz i i0 (by omega)⟩
    · rename_i q
      obtain ⟨k, k0, k1, k2, k3⟩ := cnt_1 (f := f) (v := v) n (by omega)
      refine ⟨k, k0, by omega, k2, fun i i0 i1 i2 => ?_⟩
      by_cases e : i = n
      · rw [e]; exact q
      · exact k3 i i0 (by omega) i2
theorem cnt_of0 {f : Int → Int} {v : Int} : ∀ n : Nat, (∀ k : Int, 0 ≤ k → k < n → f k ≠ v) → cnt f v n = 0
  | 0, _ => rfl
  | n + 1, h => by
    unfold cnt
    rw [cnt_of0 n (fun k h0 h1 => h k h0 (by omega)), if_neg (h n (by omega) (by omega))]
    rfl
theorem cnt_of1 {f : Int → Int} {v k : Int} : ∀ n : Nat, 0 ≤ k → k < n → f k = v → (∀ i : Int, 0 ≤ i → i < n → i ≠ k → f i ≠ v) → cnt f v n = 1
  | 0, h0, h1, _, _ => by omega
  | n + 1, h0, h1, h2, h3 => by
    unfold cnt
    by_cases e : k = n
    · rw [cnt_of0 n (fun i i0 i1 => h3 i i0 (by omega) (by omega)), ← e, if_pos h2]
      rfl
    · rw [cnt_of1 n h0 (by omega) h2 (fun i i0 i1 => h3 i i0 (by omega)), if_neg (h3 n (by omega) (by omega) (fun q => e q.symm))]
      rfl
theorem cnt_cg {f g : Int → Int} {v : Int} : ∀ n : Nat, (∀ k : Int, 0 ≤ k → k < n → f k = g k) → cnt f v n = cnt g v n
  | 0, _ => rfl
  | n + 1, h => by
    unfold cnt
    rw [cnt_cg n (fun k h0 h1 => h k h0 (by omega)), h n (by omega) (by omega)]
theorem opn_0 {R s : Int → Int} {c : Int} (h : opn R s c = 0) : ∀ k : Int, 0 ≤ k → k < siz R c → trv s (lit R c k) < 0 := by
  intro k k0 k1
  have h1 : ¬ ∃ k : Int, 0 ≤ k ∧ k < siz R c ∧ 0 < trv s (lit R c k) := fun q => by
    unfold opn at h
    rw [cif_t q] at h
    omega
  have h2 : cnt (fun k => trv s (lit R c k)) 0 (siz R c).toNat = 0 := by
    unfold opn at h
    rwa [cif_f h1] at h
  have h3 := cnt_0 _ h2 k k0 (by omega)
  have h4 : ¬ 0 < trv s (lit R c k) := fun q => h1 ⟨k, k0, k1, q⟩
  omega
theorem opn_of0 {R s : Int → Int} {c : Int} (h : ∀ k : Int, 0 ≤ k → k < siz R c → trv s (lit R c k) < 0) : opn R s c = 0 := by
  rw [opn_n (fun k k0 k1 => by have := h k k0 k1; omega)]
  exact cnt_of0 _ (fun k k0 k1 => by have := h k k0 (by omega); omega)
theorem opn_1 {R s : Int → Int} {c : Int} (h : opn R s c = 1) : ∃ k : Int, 0 ≤ k ∧ k < siz R c ∧ trv s (lit R c k) = 0 ∧ opo R s c = lit R c k ∧ ∀ i : Int, 0 ≤ i → i < siz R c → i ≠ k → trv s (lit R c i) < 0 := by
  have h1 : ¬ ∃ k : Int, 0 ≤ k ∧ k < siz R c ∧ 0 < trv s (lit R c k) := fun q => by
    unfold opn at h
    rw [cif_t q] at h
    omega
  have h2 : cnt (fun k => trv s (lit R c k)) 0 (siz R c).toNat = 1 := by
    unfold opn at h
    rwa [cif_f h1] at h
  obtain ⟨k, k0, k1, k2, k3⟩ := cnt_1 _ h2
  have hl : lst (fun k => trv s (lit R c k) = 0) (siz R c) = k := lst_at k0 (by omega) k2 (fun d d0 d1 => k3 d d0 (by omega) (by omega))
  refine ⟨k, k0, by omega, k2, ?_, fun i i0 i1 i2 => ?_⟩
  · unfold opo
    rw [hl, cif_f (by omega)]
  · have a := k3 i i0 (by omega) i2
    have b : ¬ 0 < trv s (lit R c i) := fun q => h1 ⟨i, i0, i1, q⟩
    omega
theorem opn_of1 {R s : Int → Int} {c k : Int} (k0 : 0 ≤ k) (k1 : k < siz R c) (k2 : trv s (lit R c k) = 0) (k3 : ∀ i : Int, 0 ≤ i → i < siz R c → i ≠ k → trv s (lit R c i) < 0) : opn R s c = 1 := by
  rw [opn_n (fun i i0 i1 => by
    by_cases e : i = k
    · rw [e]; omega
    · have := k3 i i0 i1 e; omega)]
  exact cnt_of1 _ k0 (by omega) k2 (fun i i0 i1 i2 => by have := k3 i i0 (by omega) i2; omega)
theorem opn_cg {R R' s s' : Int → Int} {c : Int} (hs : siz R' c = siz R c) (h : ∀ k : Int, 0 ≤ k → k < siz R c → trv s' (lit R' c k) = trv s (lit R c k)) : opn R' s' c = opn R s c := by
  by_cases q : ∃ k : Int, 0 ≤ k ∧ k < siz R c ∧ 0 < trv s (lit R c k)
  · obtain ⟨k, k0, k1, k2⟩ := q
    rw [opn_31 k0 k1 k2, opn_31 (R := R') k0 (by rw [hs]; exact k1) (by rw [h k k0 k1]; exact k2)]
  · have h1 : ∀ k : Int, 0 ≤ k → k < siz R c → ¬ 0 < trv s (lit R c k) := fun k k0 k1 k2 => q ⟨k, k0, k1, k2⟩
    rw [opn_n h1, opn_n (R := R') (fun k k0 k1 => by rw [hs] at k1; rw [h k k0 k1]; exact h1 k k0 k1), hs]
    exact cnt_cg _ (fun k k0 k1 => h k k0 (by omega))
theorem trv_cg {s s' : Int → Int} {V l : Int} (hl : lok V l) (h : ∀ v : Int, 1 ≤ v → v ≤ V → s' v = s v) : trv s' l = trv s l := by
  unfold lok at hl
  unfold trv
  split
  · exact h l (by omega) (by omega)
  · rw [h (-l) (by omega) (by omega)]
theorem trv_iab {s : Int → Int} {l : Int} (hl : l ≠ 0) : trv s l = if 0 < l then s (iab l) else -(s (iab l)) := by
  unfold trv iab
  by_cases h : 0 < l
  · rw [if_pos h, if_pos h, if_neg (by omega)]
  · rw [if_neg h, if_neg h, if_pos (by omega)]
/-- rows alike but for notes and phases -/
def Rq (R R' : Int → Int) : Prop := R' 0 = R 0 ∧ R' 1 = R 1 ∧ R' 3 = R 3 ∧ (∀ j : Int, 16 ≤ j → j < 24 → R' j = R j) ∧ ∀ j : Int, 125 ≤ j → R' j = R j
theorem Rq.refl (R : Int → Int) : Rq R R := ⟨rfl, rfl, rfl, fun _ _ _ => rfl, fun _ _ => rfl⟩
theorem Rq.trans {R R' R'' : Int → Int} (h : Rq R R') (h' : Rq R' R'') : Rq R R'' := ⟨h'.1.trans h.1, h'.2.1.trans h.2.1, h'.2.2.1.trans h.2.2.1, fun j a b => (h'.2.2.2.1 j a b).trans (h.2.2.2.1 j a b), fun j a => (h'.2.2.2.2 j a).trans (h.2.2.2.2 j a)⟩
theorem Rq.siz {R R' : Int → Int} (h : Rq R R') {c : Int} (hc : 0 ≤ c) : siz R' c = siz R c := h.2.2.2.2 _ (by omega)
theorem Rq.flg {R R' : Int → Int} (h : Rq R R') {c : Int} (hc : 0 ≤ c) : flg R' c = flg R c := h.2.2.2.2 _ (by omega)
theorem Rq.lit {R R' : Int → Int} (h : Rq R R') {c k : Int} (hc : 0 ≤ c) (hk : 0 ≤ k) : lit R' c k = lit R c k := h.2.2.2.2 _ (by omega)
theorem Rq.opn {R R' : Int → Int} (h : Rq R R') (s : Int → Int) {c : Int} (hc : 0 ≤ c) : opn R' s c = opn R s c := opn_cg (h.siz hc) (fun k k0 k1 => by rw [h.lit hc k0])
theorem RI.ph9 {R : Int → Int} (h : RI R) {v w : Int} (hv : 0 ≤ v ∧ v ≤ 30) (hw : w = 0 ∨ w = 1) : RI (oI R (32 + v) w) := by
  have e : ∀ j : Int, j ≠ 32 + v → oI R (32 + v) w j = R j := fun j hj => oI_n _ _ hj
  obtain ⟨h0, h1, h2, h3, h4, h5, h6, h7, h8, h9, h10, h11, h12, h13, h14, h15, h16, h17⟩ := h
  have z0 := e 0 (by omega)
  have z1 := e 1 (by omega)
  have z3 := e 3 (by omega)
  have z4 := e 4 (by omega)
  have z6 := e 6 (by omega)
  have z7 := e 7 (by omega)
  have es : ∀ c : Int, 0 ≤ c → siz (oI R (32 + v) w) c = siz R c := fun c hc => e _ (by omega)
  have ef : ∀ c : Int, 0 ≤ c → flg (oI R (32 + v) w) c = flg R c := fun c hc => e _ (by omega)
  have el : ∀ c k : Int, 0 ≤ c → 0 ≤ k → lit (oI R (32 + v) w) c k = lit R c k := fun c k hc hk => e _ (by omega)
  refine ⟨by rw [z0]; exact h0, by rw [z1]; exact h1, by rw [e 2 (by omega)]; exact h2, by rw [z3]; exact h3, by rw [z4]; exact h4, by rw [e 5 (by omega)]; exact h5, by rw [z6, z1, z7]; exact h6, by rw [z7]; exact h7, by rw [e 14 (by omega)]; exact h8, ?_, ?_, ?_, ?_, ?_, ?_, ?_, ?_, ?_⟩
  · intro k k0 k1
    rw [z3] at k1
    rw [z0, e (16 + k) (by omega)]
    exact h9 k k0 k1
  · intro k k0 k1
    rw [z4] at k1
    rw [z0, e (24 + k) (by omega)]
    exact h10 k k0 k1
  · intro u u0 u1
    unfold oI
    split
    · exact hw
    · exact h11 u u0 u1
  · intro u u0 u1
    rw [e _ (by omega)]
    exact h12 u u0 u1
  · intro c c0 c1
    rw [z1] at c1
    rw [es c c0, ef c c0, z0]
    obtain ⟨q1, q2, q3, q4, q5⟩ := h13 c c0 c1
    exact ⟨q1, q2, q3, q4, fun k k0 k1 => by rw [el c k c0 k0]; exact q5 k k0 k1⟩
  · intro k k0 k1
    rw [z6] at k1
    rw [e _ (by omega), z1]
    exact h14 k k0 k1
  · intro c c0 c1 i j i0 i1 j0 j1
    rw [z1] at c1
    rw [es c c0] at i1 j1
    rw [el c i c0 i0, el c j c0 j0]
    exact h15 c c0 c1 i j i0 i1 j0 j1
  · intro i j i0 i1 j0 j1
    rw [z3] at i1 j1
    rw [e (16 + i) (by omega), e (16 + j) (by omega)]
    exact h16 i j i0 i1 j0 j1
  · intro i j i0 i1 j0 j1
    rw [z4] at i1 j1
    rw [e (24 + i) (by omega), e (24 + j) (by omega)]
    exact h17 i j i0 i1 j0 j1
/-! THE SEARCH's TRAIL -/
/-- values up to a level -/
def cut (s lev : Int → Int) (j : Int) : Int → Int := fun v => if lev v ≤ j then s v else 0
/-- why the one at p is there: it was chosen, the first of its level; or its clause's others are false, all ahead of it -/
def Rsn (M : Mt) (p : Int) : Prop := (M 7 (iab (M 9 p)) = -1 ∧ 1 ≤ M 6 (iab (M 9 p)) ∧ ∀ q : Int, 0 ≤ q → q < p → M 6 (iab (M 9 q)) < M 6 (iab (M 9 p))) ∨ (0 ≤ M 7 (iab (M 9 p)) ∧ M 7 (iab (M 9 p)) < M 1 1 ∧ ∃ k : Int, 0 ≤ k ∧ k < siz (M 1) (M 7 (iab (M 9 p))) ∧ lit (M 1) (M 7 (iab (M 9 p))) k = M 9 p ∧ ∀ i : Int, 0 ≤ i → i < siz (M 1) (M 7 (iab (M 9 p))) → i ≠ k → trv (M 5) (lit (M 1) (M 7 (iab (M 9 p))) i) < 0 ∧ M 8 (iab (lit (M 1) (M 7 (iab (M 9 p))) i)) < p)
def TC (M : Mt) : Prop := T0 M ∧ (∀ p : Int, 0 ≤ p → p < M 10 0 → 0 ≤ M 6 (iab (M 9 p)) ∧ M 6 (iab (M 9 p)) ≤ p + 1) ∧ (∀ p q : Int, 0 ≤ p → p ≤ q → q < M 10 0 → M 6 (iab (M 9 p)) ≤ M 6 (iab (M 9 q))) ∧ ∀ p : Int, 0 ≤ p → p < M 10 0 → Rsn M p
/-- below level b no clause was false, or of one open literal -/
def TH (M : Mt) (b : Int) : Prop := ∀ j : Int, 0 ≤ j → j < b → ∀ c : Int, 0 ≤ c → c < M 1 1 → ¬ 2 ≤ flg (M 1) c → opn (M 1) (cut (M 5) (M 6) j) c ≠ 0 ∧ opn (M 1) (cut (M 5) (M 6) j) c ≠ 1
def TK (M : Mt) : Prop := TC M ∧ (0 ≤ M 11 0 ∧ M 11 0 ≤ M 10 0) ∧ (∀ p : Int, 0 ≤ p → p < M 10 0 → M 6 (iab (M 9 p)) ≤ M 11 0) ∧ TH M (M 11 0)
/-- a clause's literals have values at places of the trail -/
theorem trv_ne {M : Mt} {l : Int} (hl : lok (M 1 0) l) (h : trv (M 5) l ≠ 0) : M 5 (iab l) ≠ 0 := by
  rw [trv_iab hl.1] at h
  intro q
  rw [q] at h
  split at h <;> omega
theorem T0.pla {M : Mt} (h : T0 M) {l : Int} (hl : lok (M 1 0) l) (hne : trv (M 5) l ≠ 0) : 0 ≤ M 8 (iab l) ∧ M 8 (iab l) < M 10 0 ∧ iab (M 9 (M 8 (iab l))) = iab l := by
  have hi := iab_lok hl
  exact h.of hi.1 hi.2 (trv_ne hl hne)
theorem TC.rs {M : Mt} (h : TC M) {v : Int} (h0 : 1 ≤ v) (h1 : v ≤ M 1 0) (h2 : M 5 v ≠ 0) : M 7 v = -1 ∨ (0 ≤ M 7 v ∧ M 7 v < M 1 1) := by
  obtain ⟨a, b, c⟩ := h.1.of h0 h1 h2
  have := h.2.2.2 _ a b
  unfold Rsn at this
  rw [c] at this
  rcases this with q | q
  · exact Or.inl q.1
  · exact Or.inr ⟨q.1, q.2.1⟩
/-- one more comes at level M 11 0: by a clause, or as the first of its level -/
theorem TC.cm {M : Mt} (h : TC M) (hR : RI (M 1)) {l w : Int} (hl : lok (M 1 0) l) (h0 : M 5 (iab l) = 0) (hlv : 0 ≤ M 11 0 ∧ M 11 0 ≤ M 10 0 + 1) (hle : ∀ p : Int, 0 ≤ p → p < M 10 0 → M 6 (iab (M 9 p)) ≤ M 11 0)
    (hw : (w = -1 ∧ 1 ≤ M 11 0 ∧ ∀ p : Int, 0 ≤ p → p < M 10 0 → M 6 (iab (M 9 p)) < M 11 0) ∨ (0 ≤ w ∧ w < M 1 1 ∧ ∃ k : Int, 0 ≤ k ∧ k < siz (M 1) w ∧ lit (M 1) w k = l ∧ ∀ i : Int, 0 ≤ i → i < siz (M 1) w → i ≠ k → trv (M 5) (lit (M 1) w i) < 0)) : TC (cmM M l w) := by
  obtain ⟨t0, h2, h3, h4⟩ := h
  have hV := hR.V
  have hi := iab_lok hl
  have hne : ∀ p : Int, 0 ≤ p → p < M 10 0 → iab (M 9 p) ≠ iab l := fun p p0 p1 q => by
    have := (t0.at p0 p1).2.1
    rw [q, h0] at this
    exact sg9_ne _ this.symm
  have e9 : ∀ p : Int, 0 ≤ p → p < M 10 0 → cmM M l w 9 p = M 9 p := fun p p0 p1 => by rw [cm_9, oI_n _ _ (by omega)]
  have e9n : cmM M l w 9 (M 10 0) = l := by rw [cm_9, oI_s]
  have e6 : ∀ p : Int, 0 ≤ p → p < M 10 0 → cmM M l w 6 (iab (M 9 p)) = M 6 (iab (M 9 p)) := fun p p0 p1 => by rw [cm_6, oI_n _ _ (hne p p0 p1)]
  have e6n : cmM M l w 6 (iab l) = M 11 0 := by rw [cm_6, oI_s]
  have etr : ∀ u : Int, lok (M 1 0) u → trv (M 5) u < 0 → trv (cmM M l w 5) u < 0 ∧ cmM M l w 8 (iab u) = M 8 (iab u) := fun u hu q => by
    have q' := trv_ne hu (by omega)
    have hx : iab u ≠ iab l := fun z => by rw [z] at q'; exact q' h0
    rw [trv_iab hu.1] at q ⊢
    rw [cm_5, oI_n _ _ hx, cm_8, oI_n _ _ hx]
    exact ⟨q, rfl⟩
  refine ⟨t0.cm w hV.1 hl h0, ?_, ?_, ?_⟩
  · intro p p0 p1
    rw [cm_10] at p1
    by_cases e : p = M 10 0
    · rw [e, e9n, e6n]
      omega
    · rw [e9 p p0 (by omega), e6 p p0 (by omega)]
      exact h2 p p0 (by omega)
  · intro p q p0 pq q1
    rw [cm_10] at q1
    by_cases e : q = M 10 0
    · by_cases e' : p = M 10 0
      · rw [e, e']; exact Int.le_refl _
      · rw [e, e9n, e6n, e9 p p0 (by omega), e6 p p0 (by omega)]
        exact hle p p0 (by omega)
    · rw [e9 p p0 (by omega), e6 p p0 (by omega), e9 q (by omega) (by omega), e6 q (by omega) (by omega)]
      exact h3 p q p0 pq (by omega)
  · intro p p0 p1
    rw [cm_10] at p1
    have e1 : cmM M l w 1 = M 1 := rfl
    unfold Rsn
    rw [e1]
    by_cases e : p = M 10 0
    · have e7 : cmM M l w 7 (iab l) = w := by rw [cm_7, oI_s]
      rw [e, e9n, e7, e6n]
      rcases hw with ⟨a, b, c⟩ | ⟨a, b, k, k0, k1, k2, k3⟩
      · refine Or.inl ⟨a, b, fun q q0 q1 => ?_⟩
        rw [e9 q q0 q1, e6 q q0 q1]
        exact c q q0 q1
      · refine Or.inr ⟨a, b, k, k0, k1, k2, fun i i0 i1 i2 => ?_⟩
        have hu := (hR.cl a b).2.2.2.2 i i0 i1
        obtain ⟨z1, z2⟩ := etr _ hu (k3 i i0 i1 i2)
        refine ⟨z1, ?_⟩
        rw [z2]
        have := k3 i i0 i1 i2
        exact (t0.pla hu (by omega)).2.1
    · have p1' : p < M 10 0 := by omega
      have e7 : cmM M l w 7 (iab (M 9 p)) = M 7 (iab (M 9 p)) := by rw [cm_7, oI_n _ _ (hne p p0 p1')]
      rw [e9 p p0 p1', e7, e6 p p0 p1']
      rcases h4 p p0 p1' with ⟨a, b, c⟩ | ⟨a, b, k, k0, k1, k2, k3⟩
      · refine Or.inl ⟨a, b, fun q q0 q1 => ?_⟩
        rw [e9 q q0 (by omega), e6 q q0 (by omega)]
        exact c q q0 q1
      · refine Or.inr ⟨a, b, k, k0, k1, k2, fun i i0 i1 i2 => ?_⟩
        have hu := (hR.cl a b).2.2.2.2 i i0 i1
        obtain ⟨z0, z9⟩ := k3 i i0 i1 i2
        obtain ⟨z1, z2⟩ := etr _ hu z0
        exact ⟨z1, by rw [z2]; exact z9⟩
/-- what comes doesn't change values of lower levels -/
theorem TH.cm {M : Mt} {b : Int} (h : TH M b) (hR : RI (M 1)) {l : Int} (w : Int) (hl : lok (M 1 0) l) (h0 : M 5 (iab l) = 0) (hb : b ≤ M 11 0) : TH (cmM M l w) b := by
  intro j j0 j1 c c0 c1 hf
  have e : opn (M 1) (cut (cmM M l w 5) (cmM M l w 6) j) c = opn (M 1) (cut (M 5) (M 6) j) c := by
    refine opn_cg rfl (fun k k0 k1 => trv_cg (V := M 1 0) ((hR.cl c0 c1).2.2.2.2 k k0 k1) (fun v v0 v1 => ?_))
    unfold cut
    rw [cm_5, cm_6]
    by_cases e : v = iab l
    · rw [e, oI_s, oI_s, if_neg (by omega), h0]
      split <;> rfl
    · rw [oI_n _ _ e, oI_n _ _ e]
  have e1 : cmM M l w 1 = M 1 := rfl
  rw [e1, e]
  exact h j j0 j1 c c0 c1 hf
/-- a clause of one open literal: it comes -/
theorem TK.unit {M : Mt} (h : TK M) (hR : RI (M 1)) {c : Int} (hc : 0 ≤ c ∧ c < M 1 1) (ho : opn (M 1) (M 5) c = 1) : lok (M 1 0) (opo (M 1) (M 5) c) ∧ M 5 (iab (opo (M 1) (M 5) c)) = 0 ∧ TK (cmM M (opo (M 1) (M 5) c) c) := by
  obtain ⟨k, k0, k1, k2, k3, k4⟩ := opn_1 ho
  have hu := (hR.cl hc.1 hc.2).2.2.2.2 k k0 k1
  rw [k3]
  have hz : M 5 (iab (lit (M 1) c k)) = 0 := by
    rw [trv_iab hu.1] at k2
    split at k2 <;> omega
  obtain ⟨h1, h2, h3, h4⟩ := h
  refine ⟨hu, hz, ?_, ?_, ?_, ?_⟩
  · exact h1.cm hR hu hz ⟨h2.1, by omega⟩ h3 (Or.inr ⟨hc.1, hc.2, k, k0, k1, rfl, k4⟩)
  · rw [cm_10]
    show 0 ≤ M 11 0 ∧ M 11 0 ≤ M 10 0 + 1
    omega
  · intro p p0 p1
    rw [cm_10] at p1
    show cmM M (lit (M 1) c k) c 6 (iab (cmM M (lit (M 1) c k) c 9 p)) ≤ M 11 0
    rw [cm_6, cm_9]
    by_cases e : p = M 10 0
    · rw [e, oI_s, oI_s]; exact Int.le_refl _
    · rw [oI_n _ _ e]
      unfold oI
      split
      · exact Int.le_refl _
      · exact h3 p p0 (by omega)
  · exact h4.cm hR c hu hz (Int.le_refl _)
/-- a choice: a level more, its first -/
theorem TK.dec {M : Mt} (h : TK M) (hR : RI (M 1)) {l : Int} (hl : lok (M 1 0) l) (h0 : M 5 (iab l) = 0) (hno : ∀ c : Int, 0 ≤ c → c < M 1 1 → ¬ 2 ≤ flg (M 1) c → opn (M 1) (M 5) c ≠ 0 ∧ opn (M 1) (M 5) c ≠ 1) : TK (cmM (oM M 11 0 (M 11 0 + 1)) l (-1)) := by
  obtain ⟨h1, h2, h3, h4⟩ := h
  have hC : TC (oM M 11 0 (M 11 0 + 1)) := h1
  have e11 : oM M 11 0 (M 11 0 + 1) 11 0 = M 11 0 + 1 := rfl
  have hH : TH (oM M 11 0 (M 11 0 + 1)) (M 11 0 + 1) := by
    intro j j0 j1 c c0 c1 hf
    by_cases e : j = M 11 0
    · have e9 : opn (M 1) (cut (M 5) (M 6) j) c = opn (M 1) (M 5) c := by
        refine opn_cg rfl (fun k k0 k1 => trv_cg (V := M 1 0) ((hR.cl c0 c1).2.2.2.2 k k0 k1) (fun v v0 v1 => ?_))
        unfold cut
        by_cases q : M 5 v = 0
        · rw [q]; split <;> rfl
        · obtain ⟨a, b, d⟩ := h1.1.of v0 v1 q
          have := h3 _ a b
          rw [d] at this
          rw [if_pos (by omega)]
      show opn (M 1) (cut (M 5) (M 6) j) c ≠ 0 ∧ opn (M 1) (cut (M 5) (M 6) j) c ≠ 1
      rw [e9]
      exact hno c c0 c1 hf
    · exact h4 j j0 (by omega) c c0 c1 hf
  refine ⟨?_, ?_, ?_, ?_⟩
  · exact hC.cm hR hl h0 (by rw [e11]; show 0 ≤ M 11 0 + 1 ∧ M 11 0 + 1 ≤ M 10 0 + 1; omega) (fun p p0 p1 => by rw [e11]; have := h3 p p0 p1; show M 6 (iab (M 9 p)) ≤ _; omega) (Or.inl ⟨rfl, by rw [e11]; omega, fun p p0 p1 => by rw [e11]; have := h3 p p0 p1; show M 6 (iab (M 9 p)) < _; omega⟩)
  · rw [cm_10]
    show 0 ≤ M 11 0 + 1 ∧ M 11 0 + 1 ≤ M 10 0 + 1
    omega
  · intro p p0 p1
    rw [cm_10] at p1
    have p1' : p < M 10 0 + 1 := p1
    show cmM (oM M 11 0 (M 11 0 + 1)) l (-1) 6 (iab (cmM (oM M 11 0 (M 11 0 + 1)) l (-1) 9 p)) ≤ M 11 0 + 1
    rw [cm_6, cm_9]
    show oI (M 6) (iab l) (M 11 0 + 1) (iab (oI (M 9) (M 10 0) l p)) ≤ M 11 0 + 1
    by_cases e : p = M 10 0
    · rw [e, oI_s, oI_s]; exact Int.le_refl _
    · rw [oI_n _ _ e]
      unfold oI
      split
      · exact Int.le_refl _
      · have := h3 p p0 (by omega)
        omega
  · exact hH.cm hR (-1) hl h0 (Int.le_refl _)

theorem pop_Rq {M : Mt} (h : TC M) (hV : 0 ≤ M 1 0 ∧ M 1 0 ≤ 30) (hn : 0 < M 10 0) : Rq (M 1) (popM M 1) := by
  have a := (h.1.at (p := M 10 0 - 1) (by omega) (by omega)).1
  have hi := iab_lok a
  have e : ∀ j : Int, j ≠ 32 + iab (M 9 (M 10 0 - 1)) → popM M 1 j = M 1 j := fun j hj => oI_n _ _ hj
  exact ⟨e _ (by omega), e _ (by omega), e _ (by omega), fun j j0 j1 => e _ (by omega), fun j j0 => e _ (by omega)⟩
theorem TC.pop {M : Mt} (h : TC M) (hR : RI (M 1)) (hn : 0 < M 10 0) : TC (popM M) := by
  have hV := hR.V
  have hq := pop_Rq h hV hn
  obtain ⟨t0, h2, h3, h4⟩ := h
  have hlast := t0.at (p := M 10 0 - 1) (by omega) (by omega)
  have e10 : popM M 10 0 = M 10 0 - 1 := rfl
  refine ⟨t0.pop hV.1 hn, fun p p0 p1 => h2 p p0 (by rw [e10] at p1; omega), fun p q p0 pq q1 => h3 p q p0 pq (by rw [e10] at q1; omega), fun p p0 p1 => ?_⟩
  rw [e10] at p1
  rcases h4 p p0 (by omega) with q | ⟨a, b, k, k0, k1, k2, k3⟩
  · exact Or.inl q
  · refine Or.inr ⟨a, by rw [hq.2.1]; exact b, k, k0, ?_, ?_, fun i i0 i1 i2 => ?_⟩
    · show k < siz (popM M 1) (M 7 (iab (M 9 p)))
      rw [hq.siz a]; exact k1
    · show lit (popM M 1) (M 7 (iab (M 9 p))) k = M 9 p
      rw [hq.lit a k0]; exact k2
    · have i1' : i < siz (popM M 1) (M 7 (iab (M 9 p))) := i1
      rw [hq.siz a] at i1'
      show trv (oI (M 5) (iab (M 9 (M 10 0 - 1))) 0) (lit (popM M 1) (M 7 (iab (M 9 p))) i) < 0 ∧ M 8 (iab (lit (popM M 1) (M 7 (iab (M 9 p))) i)) < p
      rw [hq.lit a i0]
      obtain ⟨z1, z2⟩ := k3 i i0 i1' i2
      have hu := (hR.cl a b).2.2.2.2 i i0 i1'
      refine ⟨?_, z2⟩
      rw [trv_iab hu.1] at z1 ⊢
      rw [oI_n _ _ (fun e => by rw [e] at z2; omega)]
      exact z1
theorem lv_spec (b : Int) : ∀ (n : Nat) (M : Mt), M 10 0 = n → TC M → TR M → RI (M 1) → TC (lvF b n M) ∧ TR (lvF b n M) ∧ RI (lvF b n M 1) ∧ Rq (M 1) (lvF b n M 1) ∧ (∀ q : Nat, q ≠ 1 → q ≠ 5 → q ≠ 10 → lvF b n M q = M q) ∧ lvF b n M 10 0 ≤ M 10 0 ∧ (∀ v : Int, 1 ≤ v → v ≤ M 1 0 → lvF b n M 5 v = if b < M 6 v then 0 else M 5 v) ∧ (∀ p : Int, 0 ≤ p → p < lvF b n M 10 0 → M 6 (iab (M 9 p)) ≤ b) ∧ (∀ p : Int, 0 ≤ p → p < M 10 0 → M 6 (iab (M 9 p)) ≤ b → p < lvF b n M 10 0) := by
  intro n
  induction n with
  | zero =>
    intro M hn hC hT hR
    refine ⟨hC, hT, hR, Rq.refl _, fun _ _ _ _ => rfl, Int.le_refl _, fun v v0 v1 => ?_, fun p p0 p1 => ?_, fun p p0 p1 _ => p1⟩
    · show M 5 v = _
      by_cases q : M 5 v = 0
      · rw [q]; split <;> rfl
      · have := hC.1.of v0 v1 q
        omega
    · have : p < M 10 0 := p1
      omega
  | succ n ih =>
    intro M hn hC hT hR
    by_cases hc : 0 < M 10 0 ∧ b < M 6 (iab (M 9 (M 10 0 - 1)))
    · have e : lvF b (n + 1) M = lvF b n (popM M) := by rw [lvF, if_pos hc]
      have hV := hR.V
      have hq := pop_Rq hC hV hc.1
      have hla := hC.1.at (p := M 10 0 - 1) (by omega) (by omega)
      have hi := iab_lok hla.1
      have hR' : RI (popM M 1) := hR.ph9 (v := iab (M 9 (M 10 0 - 1))) (w := if 0 < M 9 (M 10 0 - 1) then 1 else 0) (by omega) (by split <;> omega)
      obtain ⟨i1, i2, i3, i4, i5, i6, i7, i8, i9⟩ := ih (popM M) (show M 10 0 - 1 = n by omega) (hC.pop hR hc.1) (hT.pop hc.1) hR'
      rw [e]
      have e10 : popM M 10 0 = M 10 0 - 1 := rfl
      refine ⟨i1, i2, i3, hq.trans i4, fun q q1 q5 q10 => ?_, by rw [e10] at i6; omega, fun v v0 v1 => ?_, i8, fun p p0 p1 p2 => ?_⟩
      · rw [i5 q q1 q5 q10]
        unfold popM
        rw [oM_n _ _ _ q5, oM_n _ _ _ q1, oM_n _ _ _ q10]
      · rw [i7 v v0 (by rw [hq.1]; exact v1)]
        show (if b < M 6 v then 0 else oI (M 5) (iab (M 9 (M 10 0 - 1))) 0 v) = _
        by_cases ev : v = iab (M 9 (M 10 0 - 1))
        · rw [if_pos (by rw [ev]; exact hc.2), if_pos (by rw [ev]; exact hc.2)]
        · rw [oI_n _ _ ev]
      · refine i9 p p0 ?_ p2
        rw [e10]
        by_cases ep : p = M 10 0 - 1
        · rw [ep] at p2; omega
        · omega
    · rw [lvF_out hc]
      refine ⟨hC, hT, hR, Rq.refl _, fun _ _ _ _ => rfl, Int.le_refl _, fun v v0 v1 => ?_, fun p p0 p1 => ?_, fun p p0 p1 _ => p1⟩
      · by_cases q : M 5 v = 0
        · rw [q]; split <;> rfl
        · obtain ⟨a, a2, d⟩ := hC.1.of v0 v1 q
          have := hC.2.2.1 (M 8 v) (M 10 0 - 1) a (by omega) (by omega)
          rw [d] at this
          rw [if_neg (by omega)]
      · have := hC.2.2.1 p (M 10 0 - 1) p0 (by omega) (by omega)
        omega
/-- all above a level leaves: what is left -/
theorem lvM_spec {M : Mt} (hC : TC M) (hT : TR M) (hR : RI (M 1)) (b : Int) (hb : b ≤ 30) : TC (lvM M b) ∧ TR (lvM M b) ∧ RI (lvM M b 1) ∧ Rq (M 1) (lvM M b 1) ∧ (∀ q : Nat, q ≠ 1 → q ≠ 5 → q ≠ 10 → q ≠ 11 → lvM M b q = M q) ∧ lvM M b 11 0 = (if b < 0 then 0 else b) ∧ lvM M b 10 0 ≤ M 10 0 ∧ (∀ v : Int, 1 ≤ v → v ≤ M 1 0 → lvM M b 5 v = if b < M 6 v then 0 else M 5 v) ∧ (∀ p : Int, 0 ≤ p → p < lvM M b 10 0 → M 6 (iab (M 9 p)) ≤ b) ∧ (∀ p : Int, 0 ≤ p → p < M 10 0 → M 6 (iab (M 9 p)) ≤ b → p < lvM M b 10 0) := by
  have h10 := hT.trd
  obtain ⟨i1, i2, i3, i4, i5, i6, i7, i8, i9⟩ := lv_spec b (M 10 0).toNat M (by omega) hC hT hR
  refine ⟨i1, ?_, i3, i4, fun q q1 q5 q10 q11 => ?_, rfl, i6, i7, i8, i9⟩
  · obtain ⟨a1, a2, a3⟩ := i2
    refine ⟨a1, ?_, a3⟩
    show 0 ≤ (if b < 0 then 0 else b) ∧ (if b < 0 then 0 else b) ≤ 30
    split <;> omega
  · unfold lvM
    rw [oM_n _ _ _ q11]
    exact i5 q q1 q5 q10
theorem TH.lv {M : Mt} (hC : TC M) (hT : TR M) (hR : RI (M 1)) {b b' : Int} (hb : b ≤ 30) (h : TH M b') (hbb : b' ≤ b + 1) : TH (lvM M b) b' := by
  obtain ⟨i1, i2, i3, i4, i5, i6, i7, i8, i9, i10⟩ := lvM_spec hC hT hR b hb
  intro j j0 j1 c c0 c1 hf
  rw [i4.2.1] at c1
  rw [i4.flg c0] at hf
  have e : opn (lvM M b 1) (cut (lvM M b 5) (lvM M b 6) j) c = opn (M 1) (cut (M 5) (M 6) j) c := by
    rw [i4.opn _ c0]
    refine opn_cg rfl (fun k k0 k1 => trv_cg (V := M 1 0) ((hR.cl c0 c1).2.2.2.2 k k0 k1) (fun v v0 v1 => ?_))
    unfold cut
    rw [i5 6 (by decide) (by decide) (by decide) (by decide), i8 v v0 v1]
    by_cases e : M 6 v ≤ j
    · rw [if_pos e, if_pos e, if_neg (by omega)]
    · rw [if_neg e, if_neg e]
  rw [e]
  exact h j j0 j1 c c0 c1 hf
theorem TK.lv {M : Mt} (h : TK M) (hT : TR M) (hR : RI (M 1)) {b : Int} (hb : 0 ≤ b ∧ b ≤ M 11 0) (hp : b = 0 ∨ ∃ p : Int, 0 ≤ p ∧ p < M 10 0 ∧ M 6 (iab (M 9 p)) = b) : TK (lvM M b) := by
  obtain ⟨h1, h2, h3, h4⟩ := h
  have hl := hT.lvl
  obtain ⟨i1, i2, i3, i4, i5, i6, i7, i8, i9, i10⟩ := lvM_spec h1 hT hR b (by omega)
  rw [if_neg (by omega)] at i6
  refine ⟨i1, ?_, ?_, ?_⟩
  · rw [i6]
    refine ⟨hb.1, ?_⟩
    rcases hp with q | ⟨p, p0, p1, p2⟩
    · have := i2.trd
      omega
    · have a := i10 p p0 p1 (by omega)
      have a2 := (h1.2.1 p p0 p1).2
      omega
  · intro p p0 p1
    rw [i6, i5 6 (by decide) (by decide) (by decide) (by decide), i5 9 (by decide) (by decide) (by decide) (by decide)]
    exact i9 p p0 p1
  · rw [i6]
    exact TH.lv h1 hT hR (by omega) (fun j j0 j1 => h4 j j0 (by omega)) (by omega)

/-! WHAT IS LEARNT -/
theorem brF_in {M : Mt} {c b v : Int} {f : Int → Int} : ∀ n : Nat, (∃ k : Int, 0 ≤ k ∧ k < n ∧ iab (lit (M 1) c k) = v ∧ v ≠ b ∧ M 6 v ≠ 0) → brF M c b n f v = 1
  | 0, ⟨k, h0, h1, _⟩ => by omega
  | n + 1, ⟨k, h0, h1, h2, h3, h4⟩ => by
    unfold brF
    by_cases e : k = n
    · subst e
      rw [if_neg (by rw [h2]; omega), h2, oI_s]
    · have := brF_in (M := M) (f := f) n ⟨k, h0, by omega, h2, h3, h4⟩
      split
      · exact this
      · unfold oI
        split
        · rfl
        · exact this
theorem brF_out {M : Mt} {c b v : Int} {f : Int → Int} : ∀ n : Nat, (¬ ∃ k : Int, 0 ≤ k ∧ k < n ∧ iab (lit (M 1) c k) = v ∧ v ≠ b ∧ M 6 v ≠ 0) → brF M c b n f v = f v
  | 0, _ => rfl
  | n + 1, h => by
    have ih := brF_out (M := M) (f := f) (c := c) (b := b) (v := v) n (fun ⟨k, h0, h1, h2⟩ => h ⟨k, h0, by omega, h2⟩)
    unfold brF
    split
    · exact ih
    · rename_i q
      rw [oI_n _ _ (fun e => h ⟨n, by omega, by omega, e.symm, by rw [e]; omega, by rw [e]; omega⟩)]
      exact ih
theorem brF_cases {M : Mt} {c b v : Int} {f : Int → Int} {n : Nat} (h : brF M c b n f v = 1) : f v = 1 ∨ ∃ k : Int, 0 ≤ k ∧ k < n ∧ iab (lit (M 1) c k) = v ∧ v ≠ b ∧ M 6 v ≠ 0 := by
  by_cases q : ∃ k : Int, 0 ≤ k ∧ k < n ∧ iab (lit (M 1) c k) = v ∧ v ≠ b ∧ M 6 v ≠ 0
  · exact Or.inr q
  · rw [brF_out n q] at h
    exact Or.inl h
theorem brF_keep {M : Mt} {c b v : Int} {f : Int → Int} {n : Nat} (h : f v = 1) : brF M c b n f v = 1 := by
  by_cases q : ∃ k : Int, 0 ≤ k ∧ k < n ∧ iab (lit (M 1) c k) = v ∧ v ≠ b ∧ M 6 v ≠ 0
  · exact brF_in n q
  · rw [brF_out n q]; exact h
/-- there, at the level -/
def lnP (M : Mt) (v : Int) : Prop := M 12 v = 1 ∧ M 6 v = M 11 0
theorem lnF_pos {M : Mt} {v : Int} : ∀ n : Nat, 1 ≤ v → v ≤ n → lnP M v → 1 ≤ lnF M n
  | 0, h0, h1, _ => by omega
  | n + 1, h0, h1, h2 => by
    have := lnF_rg M n
    unfold lnF
    by_cases e : v = (n : Int) + 1
    · rw [← e, if_pos (show M 12 v = 1 ∧ M 6 v = M 11 0 from h2)]; omega
    · have := lnF_pos n h0 (by omega) h2
      split <;> omega
theorem lnF_ex {M : Mt} : ∀ n : Nat, 1 ≤ lnF M n → ∃ v : Int, 1 ≤ v ∧ v ≤ n ∧ lnP M v
  | 0, h => by simp [lnF] at h
  | n + 1, h => by
    unfold lnF at h
    split at h
    · rename_i q
      exact ⟨(n : Int) + 1, by omega, by omega, q⟩
    · obtain ⟨v, v0, v1, v2⟩ := lnF_ex (M := M) n (by omega)
      exact ⟨v, v0, by omega, v2⟩
theorem lnF_two {M : Mt} (u : Int) : ∀ n : Nat, 1 < lnF M n → ∃ v : Int, 1 ≤ v ∧ v ≤ n ∧ v ≠ u ∧ lnP M v
  | 0, h => by simp [lnF] at h
  | n + 1, h => by
    unfold lnF at h
    split at h
    · rename_i q
      by_cases e : (n : Int) + 1 = u
      · obtain ⟨v, v0, v1, v2⟩ := lnF_ex (M := M) n (by omega)
        exact ⟨v, v0, by omega, by omega, v2⟩
      · exact ⟨(n : Int) + 1, by omega, by omega, e, q⟩
    · obtain ⟨v, v0, v1, v2, v3⟩ := lnF_two (M := M) u n (by omega)
      exact ⟨v, v0, by omega, v2, v3⟩
theorem lnF_one {M : Mt} {u v : Int} : ∀ n : Nat, lnF M n ≤ 1 → 1 ≤ u → u ≤ n → lnP M u → 1 ≤ v → v ≤ n → lnP M v → u = v
  | 0, _, h0, h1, _, _, _, _ => by omega
  | n + 1, h, u0, u1, u2, v0, v1, v2 => by
    have hr := lnF_rg M n
    unfold lnF at h
    by_cases eu : u = (n : Int) + 1
    · by_cases ev : v = (n : Int) + 1
      · omega
      · have := lnF_pos n v0 (by omega) v2
        rw [← eu, if_pos (show M 12 u = 1 ∧ M 6 u = M 11 0 from u2)] at h
        omega
    · by_cases ev : v = (n : Int) + 1
      · have := lnF_pos n u0 (by omega) u2
        rw [← ev, if_pos (show M 12 v = 1 ∧ M 6 v = M 11 0 from v2)] at h
        omega
      · refine lnF_one n ?_ u0 (by omega) u2 v0 (by omega) v2
        split at h <;> omega
theorem laF_0 {M : Mt} : ∀ n : Nat, laF M n = 0 → ∀ v : Int, 1 ≤ v → v ≤ n → ¬ lnP M v
  | 0, _, v, h0, h1 => by omega
  | n + 1, h, v, h0, h1 => by
    have hr := laF_rg M n
    unfold laF at h
    split at h
    · omega
    · rename_i q
      intro hv
      by_cases e : v = (n : Int) + 1
      · rw [e] at hv
        exact q ⟨hv.1, hv.2, Or.inl h⟩
      · exact laF_0 n h v h0 (by omega) hv
theorem laF_max {M : Mt} : ∀ n : Nat, laF M n ≠ 0 → (1 ≤ laF M n ∧ laF M n ≤ n) ∧ lnP M (laF M n) ∧ ∀ v : Int, 1 ≤ v → v ≤ n → lnP M v → M 8 v ≤ M 8 (laF M n)
  | 0, h => by simp [laF] at h
  | n + 1, h => by
    have hr := laF_rg M n
    unfold laF at h ⊢
    split
    · rename_i q
      refine ⟨by omega, ⟨q.1, q.2.1⟩, fun v v0 v1 v2 => ?_⟩
      by_cases e : v = (n : Int) + 1
      · rw [e]; exact Int.le_refl _
      · rcases q.2.2 with z | z
        · exact absurd v2 (laF_0 n z v v0 (by omega))
        · by_cases e0 : laF M n = 0
          · exact absurd v2 (laF_0 n e0 v v0 (by omega))
          · have := (laF_max n e0).2.2 v v0 (by omega) v2
            omega
    · rename_i q
      rw [if_neg q] at h
      obtain ⟨a, b, c⟩ := laF_max n h
      refine ⟨by omega, b, fun v v0 v1 v2 => ?_⟩
      by_cases e : v = (n : Int) + 1
      · rw [e] at v2 ⊢
        by_cases z : M 8 (laF M n) < M 8 ((n : Int) + 1)
        · exact absurd ⟨v2.1, v2.2, Or.inr z⟩ q
        · omega
      · exact c v v0 (by omega) v2
theorem laF_of {M : Mt} {n : Nat} (h : 1 ≤ lnF M n) : laF M n ≠ 0 := fun e => by
  obtain ⟨v, v0, v1, v2⟩ := lnF_ex n h
  exact laF_0 n e v v0 v1 v2
/-- what is there has a value, above level 0; one at least at the level -/
def LI (M : Mt) : Prop := (∀ v : Int, 1 ≤ v → v ≤ M 1 0 → M 12 v = 1 → M 5 v ≠ 0 ∧ 0 < M 6 v) ∧ b01 (M 12) ∧ b01 (M 13) ∧ 1 ≤ lnF M (M 1 0).toNat
/-- one resolution -/
def lrM (M : Mt) : Mt := brM (oM M 12 (laF M (M 1 0).toNat) 0) (M 7 (laF M (M 1 0).toNat)) (laF M (M 1 0).toNat)
def lrN (M : Mt) : Nat → Mt
  | 0 => M
  | n + 1 => lrM (lrN M n)
theorem lrM_q (M : Mt) {q : Nat} (h2 : q ≠ 12) (h3 : q ≠ 13) : lrM M q = M q := by
  unfold lrM brM
  rw [sM_n _ _ h3, sM_n _ _ h2, oM_n _ _ _ h2]
theorem lrN_q (M : Mt) {q : Nat} (h2 : q ≠ 12) (h3 : q ≠ 13) : ∀ n : Nat, lrN M n q = M q
  | 0 => rfl
  | n + 1 => by rw [lrN, lrM_q _ h2 h3]; exact lrN_q M h2 h3 n
theorem brF_cgM {M N : Mt} (h1 : N 1 = M 1) (h6 : N 6 = M 6) (c b : Int) (f : Int → Int) : ∀ n : Nat, brF N c b n f = brF M c b n f
  | 0 => rfl
  | n + 1 => by rw [brF, brF, brF_cgM h1 h6 c b f n, h1, h6]
theorem lrM_12 (M : Mt) : lrM M 12 = brF M (M 7 (laF M (M 1 0).toNat)) (laF M (M 1 0).toNat) (siz (M 1) (M 7 (laF M (M 1 0).toNat))).toNat (oI (M 12) (laF M (M 1 0).toNat) 0) := by
  unfold lrM brM
  rw [sM_n _ _ (show (12 : Nat) ≠ 13 by decide), sM_s, oM_s]
  exact brF_cgM (M := M) (N := oM M 12 (laF M (M 1 0).toNat) 0) rfl rfl _ _ _ _
theorem lrM_13 (M : Mt) : lrM M 13 = brF M (M 7 (laF M (M 1 0).toNat)) (laF M (M 1 0).toNat) (siz (M 1) (M 7 (laF M (M 1 0).toNat))).toNat (M 13) := by
  unfold lrM brM
  rw [sM_s, oM_n _ _ _ (show (13 : Nat) ≠ 12 by decide)]
  exact brF_cgM (M := M) (N := oM M 12 (laF M (M 1 0).toNat) 0) rfl rfl _ _ _ _
theorem b01_0 {f : Int → Int} (hf : b01 f) (i : Int) : b01 (oI f i 0) := fun v v0 v1 => by
  unfold oI
  split
  · exact Or.inl rfl
  · exact hf v v0 v1
theorem LI.step {M : Mt} (hC : TC M) (hR : RI (M 1)) (h : LI M) (h1 : 1 < lnF M (M 1 0).toNat) : (1 ≤ laF M (M 1 0).toNat ∧ laF M (M 1 0).toNat ≤ M 1 0) ∧ (0 ≤ M 7 (laF M (M 1 0).toNat) ∧ M 7 (laF M (M 1 0).toNat) < M 1 1) ∧ LI (lrM M) ∧ (lrM M 8 (laF (lrM M) (lrM M 1 0).toNat) < M 8 (laF M (M 1 0).toNat)) ∧ 0 ≤ M 8 (laF M (M 1 0).toNat) := by
  obtain ⟨i1, i2, i3, i4⟩ := h
  have hV := hR.V
  have hla := laF_max (M 1 0).toNat (laF_of i4)
  have e12 := lrM_12 M
  have e13 := lrM_13 M
  generalize hv : laF M (M 1 0).toNat = v at hla e12 e13 ⊢
  obtain ⟨⟨v0, v1⟩, v2, v3⟩ := hla
  have v1' : v ≤ M 1 0 := by omega
  have hsv := i1 v v0 v1' v2.1
  obtain ⟨p0, p1, p2⟩ := hC.1.of v0 v1' hsv.1
  obtain ⟨u, u0, u1, u2, u3⟩ := lnF_two v (M 1 0).toNat h1
  have u1' : u ≤ M 1 0 := by omega
  have hsu := i1 u u0 u1' u3.1
  obtain ⟨q0, q1, q2⟩ := hC.1.of u0 u1' hsu.1
  have hle := v3 u u0 u1 u3
  have hlt : M 8 u < M 8 v := by
    by_cases e : M 8 u = M 8 v
    · rw [e, p2] at q2
      exact absurd q2.symm u2
    · omega
  have hrs := hC.2.2.2 _ p0 p1
  unfold Rsn at hrs
  rw [p2] at hrs
  rcases hrs with ⟨a, b, c⟩ | ⟨a, b, k, k0, k1, k2, k3⟩
  · have := c _ q0 hlt
    rw [q2, u3.2, v2.2] at this
    omega
  have e1 : lrM M 1 = M 1 := lrM_q M (by decide) (by decide)
  have e5 : lrM M 5 = M 5 := lrM_q M (by decide) (by decide)
  have e6 : lrM M 6 = M 6 := lrM_q M (by decide) (by decide)
  have e8 : lrM M 8 = M 8 := lrM_q M (by decide) (by decide)
  have e11 : lrM M 11 = M 11 := lrM_q M (by decide) (by decide)
  -- what is there then: what was there, but v; or what lies ahead of v
  have hm : ∀ w : Int, 1 ≤ w → w ≤ M 1 0 → lrM M 12 w = 1 → M 5 w ≠ 0 ∧ 0 < M 6 w ∧ ((w ≠ v ∧ M 12 w = 1) ∨ M 8 w < M 8 v) := by
    intro w w0 w1 hw
    rw [e12] at hw
    rcases brF_cases hw with q | ⟨i, j0, j1, j2, j3, j4⟩
    · by_cases e : w = v
      · rw [e, oI_s] at q; omega
      · rw [oI_n _ _ e] at q
        exact ⟨(i1 w w0 w1 q).1, (i1 w w0 w1 q).2, Or.inl ⟨e, q⟩⟩
    · have hu := (hR.cl a b).2.2.2.2 i j0 (by omega)
      have hik : i ≠ k := fun e => by
        subst e
        rw [k2, p2] at j2
        exact j3 j2.symm
      obtain ⟨z1, z2⟩ := k3 i j0 (by omega) hik
      have hne := trv_ne hu (by omega)
      rw [j2] at z2 hne
      refine ⟨hne, ?_, Or.inr z2⟩
      obtain ⟨r0, r1, r2⟩ := hC.1.of w0 w1 hne
      have := (hC.2.1 _ r0 r1).1
      rw [r2] at this
      omega
  have hL : LI (lrM M) := by
    refine ⟨?_, ?_, ?_, ?_⟩
    · intro w w0 w1 hw
      rw [e1] at w1
      rw [e5, e6]
      exact ⟨(hm w w0 w1 hw).1, (hm w w0 w1 hw).2.1⟩
    · rw [e12]; exact brF_01 (b01_0 i2 _) _
    · rw [e13]; exact brF_01 i3 _
    · rw [e1]
      refine lnF_pos (v := u) _ u0 u1 ⟨?_, ?_⟩
      · rw [e12]
        exact brF_keep (by rw [oI_n _ _ u2]; exact u3.1)
      · rw [e6, e11]; exact u3.2
  refine ⟨⟨v0, v1'⟩, ⟨a, b⟩, hL, ?_, p0⟩
  have hla2 := laF_max _ (laF_of hL.2.2.2)
  generalize hv2 : laF (lrM M) (lrM M 1 0).toNat = w at hla2 ⊢
  obtain ⟨⟨w0, w1⟩, w2, w3⟩ := hla2
  rw [e1] at w1
  rw [e8]
  rcases (hm w w0 (by omega) w2.1).2.2 with ⟨z1, z2⟩ | z
  · have hwl : lnP M w := ⟨z2, by have := w2.2; rw [e6, e11] at this; exact this⟩
    have h9 := v3 w w0 w1 hwl
    have hsw := (hm w w0 (by omega) w2.1).1
    obtain ⟨r0, r1, r2⟩ := hC.1.of w0 (by omega) hsw
    by_cases e : M 8 w = M 8 v
    · rw [e, p2] at r2
      exact absurd r2.symm z1
    · omega
  · exact z

/-! counts of variables; the order of what is learnt -/
noncomputable def ctp (p : Int → Prop) : Nat → Int
  | 0 => 0
  | n + 1 => ctp p n + cif (p ((n : Int) + 1)) 1 0
theorem cif_rg (p : Prop) : (cif p 1 0 : Int) = 0 ∨ (cif p 1 0 : Int) = 1 := by
  by_cases h : p
  · exact Or.inr (cif_t h)
  · exact Or.inl (cif_f h)
theorem ctp_rg (p : Int → Prop) : ∀ n : Nat, 0 ≤ ctp p n ∧ ctp p n ≤ n
  | 0 => by simp [ctp]
  | n + 1 => by
    have := ctp_rg p n
    have := cif_rg (p ((n : Int) + 1))
    unfold ctp
    omega
theorem ctp_cg {p q : Int → Prop} : ∀ n : Nat, (∀ u : Int, 1 ≤ u → u ≤ n → (p u ↔ q u)) → ctp p n = ctp q n
  | 0, _ => rfl
  | n + 1, h => by
    have e : p ((n : Int) + 1) = q ((n : Int) + 1) := propext (h _ (by omega) (by omega))
    unfold ctp
    rw [ctp_cg n (fun u u0 u1 => h u u0 (by omega)), e]
theorem ctp_le {p q : Int → Prop} : ∀ n : Nat, (∀ u : Int, 1 ≤ u → u ≤ n → p u → q u) → ctp p n ≤ ctp q n
  | 0, _ => Int.le_refl _
  | n + 1, h => by
    have ih := ctp_le n (fun u u0 u1 => h u u0 (by omega))
    unfold ctp
    by_cases e : p ((n : Int) + 1)
    · rw [cif_t e, cif_t (h _ (by omega) (by omega) e)]
      omega
    · rw [cif_f e]
      have := cif_rg (q ((n : Int) + 1))
      omega
theorem ctp_0 {p : Int → Prop} : ∀ n : Nat, (∀ u : Int, 1 ≤ u → u ≤ n → ¬ p u) → ctp p n = 0
  | 0, _ => rfl
  | n + 1, h => by
    unfold ctp
    rw [ctp_0 n (fun u u0 u1 => h u u0 (by omega)), cif_f (h _ (by omega) (by omega))]
    rfl
theorem ctp_p1 {p q : Int → Prop} {v : Int} : ∀ n : Nat, 1 ≤ v → v ≤ n → ¬ p v → q v → (∀ u : Int, 1 ≤ u → u ≤ n → u ≠ v → (q u ↔ p u)) → ctp q n = ctp p n + 1
  | 0, h0, h1, _, _, _ => by omega
  | n + 1, h0, h1, h2, h3, h4 => by
    unfold ctp
    by_cases e : (n : Int) + 1 = v
    · rw [e, cif_t h3, cif_f h2, ctp_cg (p := q) (q := p) n (fun u u0 u1 => h4 u u0 (by omega) (by omega))]
      omega
    · have e2 : q ((n : Int) + 1) = p ((n : Int) + 1) := propext (h4 _ (by omega) (by omega) e)
      rw [ctp_p1 n h0 (by omega) h2 h3 (fun u u0 u1 => h4 u u0 (by omega)), e2]
      omega
theorem ctp_pos {p : Int → Prop} {v : Int} : ∀ n : Nat, 1 ≤ v → v ≤ n → p v → 1 ≤ ctp p n
  | 0, h0, h1, _ => by omega
  | n + 1, h0, h1, h2 => by
    have := ctp_rg p n
    unfold ctp
    by_cases e : (n : Int) + 1 = v
    · rw [e, cif_t h2]; omega
    · have := ctp_pos n h0 (by omega) h2
      have := cif_rg (p ((n : Int) + 1))
      omega
theorem ctp_lt {p q : Int → Prop} {v : Int} (n : Nat) (h0 : 1 ≤ v) (h1 : v ≤ n) (h2 : ¬ p v) (h3 : q v) (h4 : ∀ u : Int, 1 ≤ u → u ≤ n → p u → q u) : ctp p n < ctp q n := by
  have a := ctp_p1 (p := p) (q := fun u => p u ∨ u = v) n h0 h1 h2 (Or.inr rfl) (fun u u0 u1 u2 => ⟨fun z => z.elim id (fun e => absurd e u2), Or.inl⟩)
  have b := ctp_le (p := fun u => p u ∨ u = v) (q := q) n (fun u u0 u1 z => z.elim (h4 u u0 u1) (fun e => by rw [e]; exact h3))
  omega
/-- what stands ahead of (level, variable) -/
def bef (M : Mt) (l v u : Int) : Prop := M 12 u = 1 ∧ (l < M 6 u ∨ (M 6 u = l ∧ u < v))
noncomputable def rkA (M : Mt) (l v : Int) : Int := ctp (bef M l v) (M 1 0).toNat
noncomputable def rk (M : Mt) (v : Int) : Int := rkA M (M 6 v) v
def lv9 (M : Mt) (v : Int) : Int := if 0 < M 5 v then -v else v
noncomputable def lvk (M : Mt) (k : Int) : Int := lst (fun v => 1 ≤ v ∧ M 12 v = 1 ∧ rk M v = k) (M 1 0 + 1)
noncomputable def lgk (M : Mt) (k : Int) : Int := lv9 M (lvk M k)
noncomputable def ln2 (M : Mt) : Int := ctp (fun u => M 12 u = 1) (M 1 0).toNat
theorem rk_lt {M : Mt} {u v : Int} (u0 : 1 ≤ u) (u1 : u ≤ M 1 0) (hu : M 12 u = 1) (h : bef M (M 6 v) v u) : rk M u < rk M v := by
  refine ctp_lt (v := u) _ u0 (by omega) (fun q => ?_) h (fun w w0 w1 q => ⟨q.1, ?_⟩)
  · have := q.2; omega
  · have a := q.2
    have b := h.2
    omega
theorem rk_inj {M : Mt} {u v : Int} (u0 : 1 ≤ u) (u1 : u ≤ M 1 0) (hu : M 12 u = 1) (v0 : 1 ≤ v) (v1 : v ≤ M 1 0) (hv : M 12 v = 1) (h : rk M u = rk M v) : u = v := by
  by_cases e : u = v
  · exact e
  · by_cases e2 : M 6 v < M 6 u ∨ (M 6 u = M 6 v ∧ u < v)
    · have := rk_lt u0 u1 hu ⟨hu, e2⟩
      omega
    · have := rk_lt (u := v) (v := u) v0 v1 hv ⟨hv, by omega⟩
      omega
theorem lvk_at {M : Mt} {v k : Int} (v0 : 1 ≤ v) (v1 : v ≤ M 1 0) (hv : M 12 v = 1) (h : rk M v = k) : lvk M k = v := by
  refine lst_at (by omega) (by omega) ⟨v0, hv, h⟩ (fun d d0 d1 q => ?_)
  have := rk_inj q.1 (by omega) q.2.1 v0 v1 hv (by omega)
  omega
theorem rkA_t {M : Mt} {l v : Int} (v0 : 1 ≤ v) (v1 : v ≤ M 1 0) (h : M 12 v = 1 ∧ M 6 v = l) : rkA M l (v + 1) = rkA M l v + 1 :=
  ctp_p1 (v := v) _ v0 (by omega) (fun q => by have := q.2; omega) ⟨h.1, by omega⟩ (fun u u0 u1 u2 => ⟨fun q => ⟨q.1, by have := q.2; omega⟩, fun q => ⟨q.1, by have := q.2; omega⟩⟩)
theorem rkA_f {M : Mt} {l v : Int} (h : ¬ (M 12 v = 1 ∧ M 6 v = l)) : rkA M l (v + 1) = rkA M l v :=
  ctp_cg _ (fun u u0 u1 => ⟨fun q => ⟨q.1, by
    have a := q.2
    have b := q.1
    by_cases e : u = v
    · subst e; exact Or.inl (a.elim id (fun z => absurd ⟨b, z.1⟩ h))
    · omega⟩, fun q => ⟨q.1, by have := q.2; omega⟩⟩)
theorem rkA_l {M : Mt} {l : Int} : rkA M l (M 1 0 + 1) = rkA M (l - 1) 1 :=
  ctp_cg _ (fun u u0 u1 => ⟨fun q => ⟨q.1, by have := q.2; omega⟩, fun q => ⟨q.1, by have := q.2; omega⟩⟩)
theorem rkA_top {M : Mt} {l : Int} (h : ∀ u : Int, 1 ≤ u → u ≤ M 1 0 → M 12 u = 1 → M 6 u ≤ l) : rkA M l 1 = 0 :=
  ctp_0 _ (fun u u0 u1 q => by have a := h u u0 (by omega) q.1; have b := q.2; omega)
theorem rkA_bot {M : Mt} (h : ∀ u : Int, 1 ≤ u → u ≤ M 1 0 → M 12 u = 1 → 0 < M 6 u) : rkA M 0 1 = ln2 M :=
  ctp_cg _ (fun u u0 u1 => ⟨fun q => q.1, fun q => ⟨q, Or.inl (h u u0 (by omega) q)⟩⟩)
def Cv (M : Mt) (l v : Int) : Prop := ∀ k : Int, 0 ≤ k → k < rkA M l v → ∃ u : Int, 1 ≤ u ∧ u ≤ M 1 0 ∧ M 12 u = 1 ∧ rk M u = k
theorem cov_v {M : Mt} {l : Int} (h : Cv M l 1) : ∀ n : Nat, n ≤ M 1 0 → Cv M l ((n : Int) + 1)
  | 0, _ => h
  | n + 1, hn => by
    have ih := cov_v h n (by omega)
    intro k k0 k1
    rw [show ((n + 1 : Nat) : Int) + 1 = ((n : Int) + 1) + 1 by omega] at k1
    by_cases e : M 12 ((n : Int) + 1) = 1 ∧ M 6 ((n : Int) + 1) = l
    · rw [rkA_t (by omega) (by omega) e] at k1
      by_cases e2 : k = rkA M l ((n : Int) + 1)
      · refine ⟨(n : Int) + 1, by omega, by omega, e.1, ?_⟩
        rw [e2]
        unfold rk
        rw [e.2]
      · exact ih k k0 (by omega)
    · rw [rkA_f e] at k1
      exact ih k k0 k1
theorem cov_l {M : Mt} {L : Int} (hV : 0 ≤ M 1 0) (h : Cv M L 1) : ∀ a : Nat, Cv M (L - a) 1
  | 0 => by rw [show L - ((0 : Nat) : Int) = L by omega]; exact h
  | a + 1 => by
    have ih := cov_l hV h a
    have q := cov_v ih (M 1 0).toNat (by omega)
    intro k k0 k1
    rw [show L - ((a + 1 : Nat) : Int) = (L - a) - 1 by omega, ← rkA_l] at k1
    exact q k k0 (by rw [Int.toNat_of_nonneg hV]; exact k1)
theorem cover {M : Mt} {L : Int} (hV : 0 ≤ M 1 0) (hL : 0 ≤ L) (ht : ∀ u : Int, 1 ≤ u → u ≤ M 1 0 → M 12 u = 1 → 0 < M 6 u ∧ M 6 u ≤ L) {k : Int} (k0 : 0 ≤ k) (k1 : k < ln2 M) : (1 ≤ lvk M k ∧ lvk M k ≤ M 1 0) ∧ M 12 (lvk M k) = 1 ∧ rk M (lvk M k) = k := by
  have h0 : Cv M L 1 := fun k k0 k1 => by
    rw [rkA_top (fun u u0 u1 hu => (ht u u0 u1 hu).2)] at k1
    omega
  have h1 := cov_l hV h0 L.toNat
  rw [show L - (L.toNat : Int) = 0 by omega] at h1
  obtain ⟨u, u0, u1, u2, u3⟩ := h1 k k0 (by rw [rkA_bot (fun u u0 u1 hu => (ht u u0 u1 hu).1)]; exact k1)
  rw [lvk_at u0 u1 u2 u3]
  exact ⟨⟨u0, u1⟩, u2, u3⟩
theorem rk_rg {M : Mt} {v : Int} (v0 : 1 ≤ v) (v1 : v ≤ M 1 0) (hv : M 12 v = 1) : 0 ≤ rk M v ∧ rk M v < ln2 M := by
  refine ⟨(ctp_rg _ _).1, ?_⟩
  exact ctp_lt (v := v) _ v0 (by omega) (fun q => by have := q.2; omega) hv (fun u u0 u1 q => q.1)

def sc9 (t b : Int) : Int := (t + (if b = 1 then 16 else 0)) - (t + (if b = 1 then 16 else 0)) / 8
/-- scores of the variables below i -/
def scF (R g : Int → Int) (i : Int) : Int → Int := fun j => if 64 ≤ j ∧ j < 63 + i then sc9 (R j) (g (j - 63)) else R j
noncomputable def lnR0 (M : Mt) : Int → Int := oI (oI (oI (putL (bgR (M 1) 1 (ln2 M)) (M 1 1) (ln2 M) (lgk M)) (925 + M 1 6) (M 1 1)) 6 (M 1 6 + 1)) 8 (M 1 8 + 1)
noncomputable def lnR (M : Mt) : Int → Int := scF (lnR0 M) (M 13) (M 1 0 + 1)
noncomputable def lnB (M : Mt) : Int := if 1 < ln2 M then M 6 (iab (lgk M 1)) else 0
/-- what is learnt, at last: it comes -/
noncomputable def lnM (M : Mt) : Mt := cmM (lvM (sM M 1 (lnR M)) (lnB M)) (lgk M 0) (M 1 1)
theorem sc9_rg {t b : Int} (h : 0 ≤ t ∧ t ≤ 112) : 0 ≤ sc9 t b ∧ sc9 t b ≤ 112 := by unfold sc9; split <;> omega
/-- the new row, entry by entry -/
theorem lnR_at {M : Mt} (hR : RI (M 1)) (hm : M 1 1 < 400) (hn : 0 ≤ ln2 M ∧ ln2 M ≤ 30) (j : Int) : lnR M j = if j = 1 then M 1 1 + 1 else if j = 6 then M 1 6 + 1 else if j = 8 then M 1 8 + 1 else if 64 ≤ j ∧ j < 64 + M 1 0 then sc9 (M 1 j) (M 13 (j - 63)) else if j = 125 + M 1 1 then ln2 M else if j = 525 + M 1 1 then 1 else if j = 925 + M 1 6 then M 1 1 else if 1326 + 30 * M 1 1 ≤ j ∧ j < 1326 + 30 * M 1 1 + ln2 M then lgk M (j - (1326 + 30 * M 1 1)) else M 1 j := by
  have hV := hR.V
  have h1 := hR.many
  have h6 := hR.lines
  have h7 := hR.ref
  have e0 : ∀ j : Int, lnR0 M j = if j = 8 then M 1 8 + 1 else if j = 6 then M 1 6 + 1 else if j = 925 + M 1 6 then M 1 1 else if 1326 + 30 * M 1 1 ≤ j ∧ j < 1326 + 30 * M 1 1 + ln2 M then lgk M (j - (1326 + 30 * M 1 1)) else if j = 2 then M 1 2 else if j = 1 then M 1 1 + 1 else if j = 125 + M 1 1 then ln2 M else if j = 525 + M 1 1 then 1 else M 1 j := by
    intro j
    show (if j = 8 then M 1 8 + 1 else if j = 6 then M 1 6 + 1 else if j = 925 + M 1 6 then M 1 1 else if 1326 + 30 * M 1 1 ≤ j ∧ j < 1326 + 30 * M 1 1 + ln2 M then lgk M (j - (1326 + 30 * M 1 1)) else if j = 2 then M 1 2 + 0 else if j = 1 then M 1 1 + 1 else if j = 125 + M 1 1 then ln2 M else if j = 525 + M 1 1 then 1 else M 1 j) = _
    rw [Int.add_zero]
  unfold lnR scF
  rw [e0 j]
  by_cases c1 : j = 1
  · rw [if_neg (by omega), if_neg (by omega), if_neg (by omega), if_neg (by omega), if_neg (by omega), if_neg (by omega), if_pos (by omega), if_pos (by omega)]
  by_cases c6 : j = 6
  · rw [if_neg (by omega), if_neg (by omega), if_pos (by omega), if_neg (by omega), if_pos (by omega)]
  by_cases c8 : j = 8
  · rw [if_neg (by omega), if_pos (by omega), if_neg (by omega), if_neg (by omega), if_pos (by omega)]
  by_cases cS : 64 ≤ j ∧ j < 64 + M 1 0
  · rw [if_pos (by omega), if_neg (by omega), if_neg (by omega), if_neg (by omega), if_neg (by omega), if_neg (by omega), if_neg (by omega), if_neg (by omega), if_neg (by omega), if_neg (by omega), if_neg (by omega), if_neg (by omega), if_pos (by omega)]
  by_cases c125 : j = 125 + M 1 1
  · rw [if_neg (by omega), if_neg (by omega), if_neg (by omega), if_neg (by omega), if_neg (by omega), if_neg (by omega), if_neg (by omega), if_pos (by omega), if_neg (by omega), if_neg (by omega), if_neg (by omega), if_neg (by omega), if_pos (by omega)]
  by_cases c525 : j = 525 + M 1 1
  · rw [if_neg (by omega), if_neg (by omega), if_neg (by omega), if_neg (by omega), if_neg (by omega), if_neg (by omega), if_neg (by omega), if_neg (by omega), if_pos (by omega), if_neg (by omega), if_neg (by omega), if_neg (by omega), if_neg (by omega), if_neg (by omega), if_pos (by omega)]
  by_cases c925 : j = 925 + M 1 6
  · rw [if_neg (by omega), if_neg (by omega), if_neg (by omega), if_pos (by omega), if_neg (by omega), if_neg (by omega), if_neg (by omega), if_neg (by omega), if_neg (by omega), if_neg (by omega), if_pos (by omega)]
  by_cases cL : 1326 + 30 * M 1 1 ≤ j ∧ j < 1326 + 30 * M 1 1 + ln2 M
  · rw [if_neg (by omega), if_neg (by omega), if_neg (by omega), if_neg (by omega), if_pos (by omega), if_neg (by omega), if_neg (by omega), if_neg (by omega), if_neg (by omega), if_neg (by omega), if_neg (by omega), if_neg (by omega), if_pos (by omega)]
  by_cases c2 : j = 2
  · rw [if_neg (by omega), if_neg (by omega), if_neg (by omega), if_neg (by omega), if_neg (by omega), if_pos c2, if_neg (by omega), if_neg (by omega), if_neg (by omega), if_neg (by omega), if_neg (by omega), if_neg (by omega), if_neg (by omega), if_neg (by omega), c2]
  rw [if_neg (by omega), if_neg (by omega), if_neg (by omega), if_neg (by omega), if_neg (by omega), if_neg (by omega), if_neg (by omega), if_neg (by omega), if_neg (by omega), if_neg (by omega), if_neg (by omega), if_neg (by omega), if_neg (by omega), if_neg (by omega), if_neg (by omega), if_neg (by omega), if_neg (by omega)]
/-- what is there before a clause is learnt: values, levels; one alone at the level -/
def LJ (M : Mt) : Prop := (∀ v : Int, 1 ≤ v → v ≤ M 1 0 → M 12 v = 1 → M 5 v ≠ 0 ∧ 0 < M 6 v ∧ M 6 v ≤ M 11 0) ∧ lnF M (M 1 0).toNat = 1
theorem ln2_rg {M : Mt} (hR : RI (M 1)) (h : LJ M) : 1 ≤ ln2 M ∧ ln2 M ≤ 30 := by
  have hV := hR.V
  have a := ctp_rg (fun u => M 12 u = 1) (M 1 0).toNat
  obtain ⟨v, v0, v1, v2⟩ := lnF_ex (M := M) (M 1 0).toNat (by rw [h.2]; exact Int.le_refl _)
  have b := ctp_pos (p := fun u => M 12 u = 1) (v := v) (M 1 0).toNat v0 v1 v2.1
  unfold ln2
  omega
theorem lv9_ok {M : Mt} {v : Int} (v0 : 1 ≤ v) (v1 : v ≤ M 1 0) : lok (M 1 0) (lv9 M v) ∧ iab (lv9 M v) = v := by
  unfold lv9 lok iab
  (repeat' split) <;> omega
/-- the learnt clause's literals: of unlike variables, all false; the first alone is of the level, the second's level the next -/
theorem lgk_all {M : Mt} (hR : RI (M 1)) (h11 : 0 ≤ M 11 0) (h : LJ M) : (∀ k : Int, 0 ≤ k → k < ln2 M → lok (M 1 0) (lgk M k) ∧ iab (lgk M k) = lvk M k ∧ M 5 (lvk M k) ≠ 0 ∧ 0 < M 6 (lvk M k) ∧ M 6 (lvk M k) ≤ M 11 0 ∧ (1 ≤ lvk M k ∧ lvk M k ≤ M 1 0)) ∧ (∀ i j : Int, 0 ≤ i → i < ln2 M → 0 ≤ j → j < ln2 M → lvk M i = lvk M j → i = j) ∧ M 6 (lvk M 0) = M 11 0 ∧ (∀ k : Int, 0 < k → k < ln2 M → M 6 (lvk M k) < M 11 0 ∧ M 6 (lvk M k) ≤ M 6 (lvk M 1)) := by
  have hV := hR.V
  have hn := ln2_rg hR h
  have hcv : ∀ k : Int, 0 ≤ k → k < ln2 M → (1 ≤ lvk M k ∧ lvk M k ≤ M 1 0) ∧ M 12 (lvk M k) = 1 ∧ rk M (lvk M k) = k := fun k k0 k1 => cover hV.1 h11 (fun u u0 u1 hu => (h.1 u u0 u1 hu).2) k0 k1
  have hinj : ∀ i j : Int, 0 ≤ i → i < ln2 M → 0 ≤ j → j < ln2 M → lvk M i = lvk M j → i = j := fun i j i0 i1 j0 j1 e => by
    have a := (hcv i i0 i1).2.2
    have b := (hcv j j0 j1).2.2
    rw [e] at a
    omega
  obtain ⟨v, v0, v1, v2⟩ := lnF_ex (M := M) (M 1 0).toNat (by rw [h.2]; exact Int.le_refl _)
  have v1' : v ≤ M 1 0 := by omega
  have hone : ∀ u : Int, 1 ≤ u → u ≤ M 1 0 → M 12 u = 1 → M 6 u = M 11 0 → u = v := fun u u0 u1 u2 u3 => lnF_one (M := M) (M 1 0).toNat (by rw [h.2]; exact Int.le_refl _) u0 (by omega) ⟨u2, u3⟩ v0 v1 v2
  have hr0 : rk M v = 0 := ctp_0 _ (fun u u0 u1 q => by
    have a := (h.1 u u0 (by omega) q.1).2.2
    have b := q.2
    rw [v2.2] at b
    have e : M 6 u = M 11 0 := by omega
    have := hone u u0 (by omega) q.1 e
    omega)
  have hv0 : lvk M 0 = v := lvk_at v0 v1' v2.1 hr0
  refine ⟨fun k k0 k1 => ?_, hinj, by rw [hv0]; exact v2.2, fun k k0 k1 => ?_⟩
  · obtain ⟨⟨a, b⟩, c, d⟩ := hcv k k0 k1
    obtain ⟨e1, e2⟩ := lv9_ok (M := M) a b
    obtain ⟨f1, f2, f3⟩ := h.1 _ a b c
    exact ⟨e1, e2, f1, f2, f3, a, b⟩
  · obtain ⟨⟨a, b⟩, c, d⟩ := hcv k (by omega) k1
    obtain ⟨⟨a1, b1⟩, c1, d1⟩ := hcv 1 (by omega) (by omega)
    obtain ⟨f1, f2, f3⟩ := h.1 _ a b c
    have hne : lvk M k ≠ v := fun e => by
      rw [e, hr0] at d
      omega
    have hlt : M 6 (lvk M k) ≠ M 11 0 := fun e => hne (hone _ a b c e)
    refine ⟨by omega, ?_⟩
    by_cases e : M 6 (lvk M k) ≤ M 6 (lvk M 1)
    · exact e
    · have := rk_lt (u := lvk M k) (v := lvk M 1) a b c ⟨c, Or.inl (by omega)⟩
      omega
theorem trv_lv9 {M : Mt} {s : Int → Int} {v : Int} (v0 : 1 ≤ v) : trv s (lv9 M v) = if 0 < M 5 v then -(s v) else s v := by
  unfold lv9
  split
  · unfold trv
    rw [if_neg (by omega), show - -v = v by omega]
  · unfold trv
    rw [if_pos (by omega)]
theorem s3_ne {s : Int → Int} (h : s3 s) {v : Int} (v0 : 0 ≤ v) (v1 : v ≤ 30) (hne : s v ≠ 0) : s v = 1 ∨ s v = -1 := by
  have := h v v0 v1
  omega
theorem RI.learn {M : Mt} (hR : RI (M 1)) (h11 : 0 ≤ M 11 0) (hm : M 1 1 < 400) (h : LJ M) : RI (lnR M) := by
  have hn := ln2_rg hR h
  have e := lnR_at hR hm (by omega)
  obtain ⟨a1, a2, a3, a4⟩ := lgk_all hR h11 h
  have hV := hR.V
  have hmy := hR.many
  have h6 := hR.lines
  have h7 := hR.ref
  have g : ∀ j : Int, j ≠ 1 → j ≠ 6 → j ≠ 8 → ¬ (64 ≤ j ∧ j < 64 + M 1 0) → j ≠ 125 + M 1 1 → j ≠ 525 + M 1 1 → j ≠ 925 + M 1 6 → ¬ (1326 + 30 * M 1 1 ≤ j ∧ j < 1326 + 30 * M 1 1 + ln2 M) → lnR M j = M 1 j := fun j c1 c2 c3 c4 c5 c6 c7 c8 => by rw [e, if_neg c1, if_neg c2, if_neg c3, if_neg c4, if_neg c5, if_neg c6, if_neg c7, if_neg c8]
  have gs : ∀ j : Int, (j = 0 ∨ (2 ≤ j ∧ j < 6) ∨ j = 7 ∨ (8 < j ∧ j < 64) ∨ (94 ≤ j ∧ j < 125)) → lnR M j = M 1 j := fun j hj => g j (by omega) (by omega) (by omega) (by omega) (by omega) (by omega) (by omega) (by omega)
  have z1 : lnR M 1 = M 1 1 + 1 := by rw [e]; rfl
  have z6 : lnR M 6 = M 1 6 + 1 := by rw [e, if_neg (by omega)]; rfl
  have z5 : siz (lnR M) (M 1 1) = ln2 M := by unfold siz; rw [e, if_neg (by omega), if_neg (by omega), if_neg (by omega), if_neg (by omega), if_pos rfl]
  have zf : flg (lnR M) (M 1 1) = 1 := by unfold flg; rw [e, if_neg (by omega), if_neg (by omega), if_neg (by omega), if_neg (by omega), if_neg (by omega), if_pos rfl]
  have zl : ∀ k : Int, 0 ≤ k → k < ln2 M → lit (lnR M) (M 1 1) k = lgk M k := fun k k0 k1 => by
    unfold lit
    rw [e, if_neg (by omega), if_neg (by omega), if_neg (by omega), if_neg (by omega), if_neg (by omega), if_neg (by omega), if_neg (by omega), if_pos (by omega), show 1326 + 30 * M 1 1 + k - (1326 + 30 * M 1 1) = k by omega]
  have es : ∀ c : Int, 0 ≤ c → c < M 1 1 → siz (lnR M) c = siz (M 1) c := fun c c0 c1 => g _ (by omega) (by omega) (by omega) (by omega) (by omega) (by omega) (by omega) (by omega)
  have ef : ∀ c : Int, 0 ≤ c → c < M 1 1 → flg (lnR M) c = flg (M 1) c := fun c c0 c1 => g _ (by omega) (by omega) (by omega) (by omega) (by omega) (by omega) (by omega) (by omega)
  have el : ∀ c k : Int, 0 ≤ c → c < M 1 1 → 0 ≤ k → k < 30 → lit (lnR M) c k = lit (M 1) c k := fun c k c0 c1 k0 k1 => g _ (by omega) (by omega) (by omega) (by omega) (by omega) (by omega) (by omega) (by omega)
  obtain ⟨h0, h1, h2, h3, h4, h5, h6', h7', h8, h9, h10, h11', h12, h13, h14, h15, h16, h17⟩ := hR
  have z0 := gs 0 (by omega)
  have z3 := gs 3 (by omega)
  have z4 := gs 4 (by omega)
  have z7 := gs 7 (by omega)
  refine ⟨by rw [z0]; exact h0, by rw [z1]; omega, by rw [gs 2 (by omega)]; exact h2, by rw [z3]; exact h3, by rw [z4]; exact h4, by rw [gs 5 (by omega)]; exact h5, by rw [z6, z1, z7]; omega, by rw [z7]; exact h7, by rw [gs 14 (by omega)]; exact h8, ?_, ?_, ?_, ?_, ?_, ?_, ?_, ?_, ?_⟩
  · intro k k0 k1
    rw [z3] at k1
    rw [z0, gs (16 + k) (by omega)]
    exact h9 k k0 k1
  · intro k k0 k1
    rw [z4] at k1
    rw [z0, gs (24 + k) (by omega)]
    exact h10 k k0 k1
  · intro v v0 v1
    rw [gs (32 + v) (by omega)]
    exact h11' v v0 v1
  · intro v v0 v1
    rw [e, if_neg (by omega), if_neg (by omega), if_neg (by omega)]
    split
    · exact sc9_rg (h12 v v0 v1)
    · rw [if_neg (by omega), if_neg (by omega), if_neg (by omega), if_neg (by omega)]
      exact h12 v v0 v1
  · intro c c0 c1
    rw [z1] at c1
    rw [z0]
    by_cases ec : c = M 1 1
    · rw [ec, z5, zf]
      exact ⟨hn.1, hn.2, by omega, by omega, fun k k0 k1 => by rw [zl k k0 k1]; exact (a1 k k0 k1).1⟩
    · rw [es c c0 (by omega), ef c c0 (by omega)]
      obtain ⟨q1, q2, q3, q4, q5⟩ := h13 c c0 (by omega)
      exact ⟨q1, q2, q3, q4, fun k k0 k1 => by rw [el c k c0 (by omega) k0 (by omega)]; exact q5 k k0 k1⟩
  · intro k k0 k1
    rw [z6] at k1
    rw [z1]
    by_cases ek : k = M 1 6
    · rw [ek, e, if_neg (by omega), if_neg (by omega), if_neg (by omega), if_neg (by omega), if_neg (by omega), if_neg (by omega), if_pos rfl]
      omega
    · rw [g _ (by omega) (by omega) (by omega) (by omega) (by omega) (by omega) (by omega) (by omega)]
      have := h14 k k0 (by omega)
      omega
  · intro c c0 c1 i j i0 i1 j0 j1
    rw [z1] at c1
    by_cases ec : c = M 1 1
    · rw [ec, z5] at i1 j1
      rw [ec, zl i i0 i1, zl j j0 j1, (a1 i i0 i1).2.1, (a1 j j0 j1).2.1]
      exact a2 i j i0 i1 j0 j1
    · rw [es c c0 (by omega)] at i1 j1
      have hsz := (h13 c c0 (by omega)).2.1
      rw [el c i c0 (by omega) i0 (by omega), el c j c0 (by omega) j0 (by omega)]
      exact h15 c c0 (by omega) i j i0 i1 j0 j1
  · intro i j i0 i1 j0 j1
    rw [z3] at i1 j1
    rw [gs (16 + i) (by omega), gs (16 + j) (by omega)]
    exact h16 i j i0 i1 j0 j1
  · intro i j i0 i1 j0 j1
    rw [z4] at i1 j1
    rw [gs (24 + i) (by omega), gs (24 + j) (by omega)]
    exact h17 i j i0 i1 j0 j1
/-- the new row keeps the old clauses, and holds the new one -/
theorem lnR_old {M : Mt} (hR : RI (M 1)) (hm : M 1 1 < 400) (hn : 0 ≤ ln2 M ∧ ln2 M ≤ 30) : lnR M 0 = M 1 0 ∧ lnR M 1 = M 1 1 + 1 ∧ lnR M 3 = M 1 3 ∧ (∀ j : Int, 16 ≤ j → j < 24 → lnR M j = M 1 j) ∧ (∀ c : Int, 0 ≤ c → c < M 1 1 → siz (lnR M) c = siz (M 1) c ∧ flg (lnR M) c = flg (M 1) c ∧ ∀ k : Int, 0 ≤ k → k < 30 → lit (lnR M) c k = lit (M 1) c k) ∧ siz (lnR M) (M 1 1) = ln2 M ∧ flg (lnR M) (M 1 1) = 1 ∧ ∀ k : Int, 0 ≤ k → k < ln2 M → lit (lnR M) (M 1 1) k = lgk M k := by
  have e := lnR_at hR hm hn
  have hV := hR.V
  have hmy := hR.many
  have h6 := hR.lines
  have h7 := hR.ref
  have g : ∀ j : Int, j ≠ 1 → j ≠ 6 → j ≠ 8 → ¬ (64 ≤ j ∧ j < 64 + M 1 0) → j ≠ 125 + M 1 1 → j ≠ 525 + M 1 1 → j ≠ 925 + M 1 6 → ¬ (1326 + 30 * M 1 1 ≤ j ∧ j < 1326 + 30 * M 1 1 + ln2 M) → lnR M j = M 1 j := fun j c1 c2 c3 c4 c5 c6 c7 c8 => by rw [e, if_neg c1, if_neg c2, if_neg c3, if_neg c4, if_neg c5, if_neg c6, if_neg c7, if_neg c8]
  refine ⟨g _ (by omega) (by omega) (by omega) (by omega) (by omega) (by omega) (by omega) (by omega), by rw [e]; rfl, g _ (by omega) (by omega) (by omega) (by omega) (by omega) (by omega) (by omega) (by omega), fun j j0 j1 => g _ (by omega) (by omega) (by omega) (by omega) (by omega) (by omega) (by omega) (by omega), fun c c0 c1 => ⟨g _ (by omega) (by omega) (by omega) (by omega) (by omega) (by omega) (by omega) (by omega), g _ (by omega) (by omega) (by omega) (by omega) (by omega) (by omega) (by omega) (by omega), fun k k0 k1 => g _ (by omega) (by omega) (by omega) (by omega) (by omega) (by omega) (by omega) (by omega)⟩, ?_, ?_, fun k k0 k1 => ?_⟩
  · unfold siz; rw [e, if_neg (by omega), if_neg (by omega), if_neg (by omega), if_neg (by omega), if_pos rfl]
  · unfold flg; rw [e, if_neg (by omega), if_neg (by omega), if_neg (by omega), if_neg (by omega), if_neg (by omega), if_pos rfl]
  · unfold lit
    rw [e, if_neg (by omega), if_neg (by omega), if_neg (by omega), if_neg (by omega), if_neg (by omega), if_neg (by omega), if_neg (by omega), if_pos (by omega), show 1326 + 30 * M 1 1 + k - (1326 + 30 * M 1 1) = k by omega]

theorem TC.row {M : Mt} {R' : Int → Int} (h : TC M) (hR : RI (M 1)) (e0 : R' 0 = M 1 0) (e1 : M 1 1 ≤ R' 1) (ec : ∀ c : Int, 0 ≤ c → c < M 1 1 → siz R' c = siz (M 1) c ∧ ∀ k : Int, 0 ≤ k → k < 30 → lit R' c k = lit (M 1) c k) : TC (sM M 1 R') := by
  obtain ⟨⟨t1, t2, t3⟩, h2, h3, h4⟩ := h
  refine ⟨⟨?_, ?_, ?_⟩, h2, h3, ?_⟩
  · show M 10 0 = asg (M 5) (R' 0).toNat
    rw [e0]; exact t1
  · intro p p0 p1
    show lok (R' 0) (M 9 p) ∧ _
    rw [e0]
    exact t2 p p0 p1
  · intro v v0 v1
    refine t3 v v0 ?_
    have : v ≤ R' 0 := v1
    rw [e0] at this
    exact this
  · intro p p0 p1
    rcases h4 p p0 p1 with q | ⟨a, b, k, k0, k1, k2, k3⟩
    · exact Or.inl q
    · obtain ⟨z1, z2⟩ := ec _ a b
      have hs := (hR.cl a b).2.1
      refine Or.inr ⟨a, ?_, k, k0, ?_, ?_, fun i i0 i1 i2 => ?_⟩
      · show M 7 (iab (M 9 p)) < R' 1
        omega
      · show k < siz R' (M 7 (iab (M 9 p)))
        rw [z1]; exact k1
      · show lit R' (M 7 (iab (M 9 p))) k = M 9 p
        rw [z2 k k0 (by omega)]; exact k2
      · have i1' : i < siz R' (M 7 (iab (M 9 p))) := i1
        rw [z1] at i1'
        show trv (M 5) (lit R' (M 7 (iab (M 9 p))) i) < 0 ∧ M 8 (iab (lit R' (M 7 (iab (M 9 p))) i)) < p
        rw [z2 i i0 (by omega)]
        exact k3 i i0 i1' i2
theorem TK.rq {M : Mt} {R' : Int → Int} (h : TK M) (hR : RI (M 1)) (hq : Rq (M 1) R') : TK (sM M 1 R') := by
  obtain ⟨h1, h2, h3, h4⟩ := h
  refine ⟨h1.row hR hq.1 (by rw [hq.2.1]; exact Int.le_refl _) (fun c c0 c1 => ⟨hq.siz c0, fun k k0 k1 => hq.lit c0 k0⟩), h2, h3, ?_⟩
  intro j j0 j1 c c0 c1 hf
  have c1' : c < R' 1 := c1
  rw [hq.2.1] at c1'
  have hf' : ¬ 2 ≤ flg R' c := hf
  rw [hq.flg c0] at hf'
  show opn R' (cut (M 5) (M 6) j) c ≠ 0 ∧ opn R' (cut (M 5) (M 6) j) c ≠ 1
  rw [hq.opn _ c0]
  exact h4 j j0 j1 c c0 c1' hf'
theorem TK.learn {M : Mt} (hK : TK M) (hR : RI (M 1)) (hT : TR M) (hm : M 1 1 < 400) (hJ : LJ M) : TK (lnM M) ∧ RI (lnM M 1) ∧ TR (lnM M) ∧ (∀ q : Nat, q ≠ 1 → q ≠ 5 → q ≠ 6 → q ≠ 7 → q ≠ 8 → q ≠ 9 → q ≠ 10 → q ≠ 11 → lnM M q = M q) := by
  obtain ⟨h1, h2, h3, h4⟩ := hK
  have hV := hR.V
  have hmy := hR.many
  have hl := hT.lvl
  have hn := ln2_rg hR hJ
  have hR' := hR.learn h2.1 hm hJ
  obtain ⟨o0, o1, o3, oas, oc, os, of, ol⟩ := lnR_old hR hm (by omega)
  obtain ⟨a1, a2, a3, a4⟩ := lgk_all hR h2.1 hJ
  have hC : TC (sM M 1 (lnR M)) := h1.row hR o0 (by omega) (fun c c0 c1 => ⟨(oc c c0 c1).1, (oc c c0 c1).2.2⟩)
  have hTN : TR (sM M 1 (lnR M)) := hT
  have hRN : RI (sM M 1 (lnR M) 1) := hR'
  have hB : 0 ≤ lnB M ∧ lnB M < M 11 0 := by
    unfold lnB
    split
    · rename_i q
      rw [(a1 1 (by omega) q).2.1]
      have b1 := (a1 1 (by omega) q).2.2.2.1
      have b2 := (a4 1 (by omega) q).1
      omega
    · have b1 := (a1 0 (by omega) (by omega)).2.2.2.1
      omega
  have hTH : TH (sM M 1 (lnR M)) (lnB M) := by
    intro j j0 j1 c c0 c1 hf
    show opn (lnR M) (cut (M 5) (M 6) j) c ≠ 0 ∧ opn (lnR M) (cut (M 5) (M 6) j) c ≠ 1
    have c1' : c < lnR M 1 := c1
    rw [o1] at c1'
    by_cases e : c = M 1 1
    · have hn1 : 1 < ln2 M := by
        by_cases q : 1 < ln2 M
        · exact q
        · exfalso
          unfold lnB at j1
          rw [if_neg q] at j1
          omega
      have hb1 : lnB M = M 6 (lvk M 1) := by unfold lnB; rw [if_pos hn1, (a1 1 (by omega) hn1).2.1]
      have z : ∀ k : Int, (k = 0 ∨ k = 1) → trv (cut (M 5) (M 6) j) (lit (lnR M) c k) = 0 := fun k hk => by
        rw [e, ol k (by omega) (by omega)]
        unfold lgk
        have hk9 := a1 k (by omega) (by omega)
        rw [trv_lv9 hk9.2.2.2.2.2.1]
        have : cut (M 5) (M 6) j (lvk M k) = 0 := by
          unfold cut
          rw [if_neg]
          rcases hk with q | q
          · rw [q]; omega
          · rw [q]; omega
        rw [this]
        split <;> rfl
      have hs : siz (lnR M) c = ln2 M := by rw [e]; exact os
      refine ⟨fun q => ?_, fun q => ?_⟩
      · have := opn_0 q 0 (by omega) (by omega)
        rw [z 0 (Or.inl rfl)] at this
        omega
      · obtain ⟨k, k0, k1, k2, k3, k4⟩ := opn_1 q
        by_cases ek : k = 0
        · have := k4 1 (by omega) (by omega) (by omega)
          rw [z 1 (Or.inr rfl)] at this
          omega
        · have := k4 0 (by omega) (by omega) (fun q => ek q.symm)
          rw [z 0 (Or.inl rfl)] at this
          omega
    · have c1'' : c < M 1 1 := by omega
      obtain ⟨z1, z2, z3⟩ := oc c c0 c1''
      have hsz := (hR.cl c0 c1'').2.1
      have hf' : ¬ 2 ≤ flg (lnR M) c := hf
      rw [z2] at hf'
      rw [opn_cg (R := M 1) (s := cut (M 5) (M 6) j) z1 (fun k k0 k1 => by rw [z3 k k0 (by omega)])]
      exact h4 j j0 (by omega) c c0 c1'' hf'
  obtain ⟨i1, i2, i3, i4, i5, i6, i7, i8, i9, i10⟩ := lvM_spec hC hTN hRN (lnB M) (by omega)
  have hTP := TH.lv hC hTN hRN (b := lnB M) (b' := lnB M) (by omega) hTH (by omega)
  rw [if_neg (by omega)] at i6
  have hbn : lnB M ≤ lvM (sM M 1 (lnR M)) (lnB M) 10 0 := by
    by_cases q : 1 < ln2 M
    · have hb1 : lnB M = M 6 (lvk M 1) := by unfold lnB; rw [if_pos q, (a1 1 (by omega) q).2.1]
      have w := a1 1 (by omega) q
      obtain ⟨p0, p1, p2⟩ := h1.1.of w.2.2.2.2.2.1 w.2.2.2.2.2.2 w.2.2.1
      have x1 := (h1.2.1 _ p0 p1).2
      rw [p2] at x1
      have x2 := i10 _ p0 p1 (by show M 6 (iab (M 9 (M 8 (lvk M 1)))) ≤ _; rw [p2, hb1]; exact Int.le_refl _)
      omega
    · have hb1 : lnB M = 0 := by unfold lnB; rw [if_neg q]
      have := i2.trd
      omega
  have e10 : lvM (sM M 1 (lnR M)) (lnB M) 1 0 = M 1 0 := by rw [i4.1]; exact o0
  have e11 : lvM (sM M 1 (lnR M)) (lnB M) 1 1 = M 1 1 + 1 := by rw [i4.2.1]; exact o1
  have e6 : lvM (sM M 1 (lnR M)) (lnB M) 6 = M 6 := i5 6 (by decide) (by decide) (by decide) (by decide)
  have e9 : lvM (sM M 1 (lnR M)) (lnB M) 9 = M 9 := i5 9 (by decide) (by decide) (by decide) (by decide)
  have w0 := a1 0 (by omega) (by omega)
  have hs0 : lvM (sM M 1 (lnR M)) (lnB M) 5 (iab (lgk M 0)) = 0 := by
    rw [w0.2.1, i8 _ w0.2.2.2.2.2.1 (by show lvk M 0 ≤ lnR M 0; rw [o0]; exact w0.2.2.2.2.2.2)]
    show (if lnB M < M 6 (lvk M 0) then 0 else M 5 (lvk M 0)) = 0
    rw [if_pos (by omega)]
  have hlk : lok (lvM (sM M 1 (lnR M)) (lnB M) 1 0) (lgk M 0) := by rw [e10]; exact w0.1
  have hlev : ∀ p : Int, 0 ≤ p → p < lvM (sM M 1 (lnR M)) (lnB M) 10 0 → lvM (sM M 1 (lnR M)) (lnB M) 6 (iab (lvM (sM M 1 (lnR M)) (lnB M) 9 p)) ≤ lvM (sM M 1 (lnR M)) (lnB M) 11 0 := fun p p0 p1 => by
    rw [e6, e9, i6]
    exact i9 p p0 p1
  have hx := i2.trd
  have hlt : lvM (sM M 1 (lnR M)) (lnB M) 10 0 < 30 := by
    have := i1.1.lt (by rw [e10]; exact hV.1) (v := iab (lgk M 0)) (by rw [w0.2.1]; exact w0.2.2.2.2.2.1) (by rw [e10, w0.2.1]; exact w0.2.2.2.2.2.2) hs0
    omega
  have hCm : TC (lnM M) := by
    refine i1.cm i3 hlk hs0 (by rw [i6]; omega) hlev (Or.inr ⟨by omega, by rw [e11]; omega, 0, by omega, ?_, ?_, fun i j0 j1 j2 => ?_⟩)
    · rw [i4.siz (by omega)]
      show 0 < siz (lnR M) (M 1 1)
      rw [os]; omega
    · rw [i4.lit (by omega) (by omega)]
      exact ol 0 (by omega) (by omega)
    · rw [i4.siz (by omega)] at j1
      have j1' : i < siz (lnR M) (M 1 1) := j1
      rw [os] at j1'
      rw [i4.lit (by omega) j0, show lit (sM M 1 (lnR M) 1) (M 1 1) i = lgk M i from ol i j0 j1']
      have w := a1 i j0 j1'
      unfold lgk
      rw [trv_lv9 w.2.2.2.2.2.1, i8 _ w.2.2.2.2.2.1 (by show lvk M i ≤ lnR M 0; rw [o0]; exact w.2.2.2.2.2.2)]
      show (if 0 < M 5 (lvk M i) then -(if lnB M < M 6 (lvk M i) then 0 else M 5 (lvk M i)) else (if lnB M < M 6 (lvk M i) then 0 else M 5 (lvk M i))) < 0
      have hn1 : 1 < ln2 M := by omega
      have hb1 : lnB M = M 6 (lvk M 1) := by unfold lnB; rw [if_pos hn1, (a1 1 (by omega) hn1).2.1]
      have w4 := (a4 i (by omega) j1').2
      rw [if_neg (show ¬ lnB M < M 6 (lvk M i) by omega)]
      rcases s3_ne hT.s (show 0 ≤ lvk M i by omega) (by omega) w.2.2.1 with q | q
      · rw [q]; decide
      · rw [q]; decide
  refine ⟨⟨hCm, ?_, ?_, ?_⟩, i3, ?_, fun q q1 q5 q6 q7 q8 q9 q10 q11 => ?_⟩
  · show 0 ≤ lvM (sM M 1 (lnR M)) (lnB M) 11 0 ∧ lvM (sM M 1 (lnR M)) (lnB M) 11 0 ≤ lvM (sM M 1 (lnR M)) (lnB M) 10 0 + 1
    rw [i6]; omega
  · intro p p0 p1
    have p1' : p < lvM (sM M 1 (lnR M)) (lnB M) 10 0 + 1 := p1
    show cmM (lvM (sM M 1 (lnR M)) (lnB M)) (lgk M 0) (M 1 1) 6 (iab (cmM (lvM (sM M 1 (lnR M)) (lnB M)) (lgk M 0) (M 1 1) 9 p)) ≤ lvM (sM M 1 (lnR M)) (lnB M) 11 0
    rw [cm_6, cm_9]
    by_cases e : p = lvM (sM M 1 (lnR M)) (lnB M) 10 0
    · rw [e, oI_s, oI_s]; exact Int.le_refl _
    · rw [oI_n _ _ e]
      unfold oI
      split
      · exact Int.le_refl _
      · exact hlev p p0 (by omega)
  · show TH (cmM (lvM (sM M 1 (lnR M)) (lnB M)) (lgk M 0) (M 1 1)) (lvM (sM M 1 (lnR M)) (lnB M) 11 0)
    rw [i6]
    exact hTP.cm i3 _ hlk hs0 (by rw [i6]; exact Int.le_refl _)
  · refine i2.cm ?_ hlt ⟨by omega, hm⟩
    have := w0.1
    unfold lok at *
    omega
  · unfold lnM
    rw [cm_q _ _ _ q5 q6 q7 q8 q9 q10, i5 q q1 q5 q10 q11]
    exact sM_n _ _ q1

/-- nothing is marked -/
def z31 (f : Int → Int) : Int → Int := fun v => if 0 ≤ v ∧ v < 31 then 0 else f v
def lrA (M : Mt) (c : Int) : Mt := brM (sM (sM M 12 (z31 (M 12))) 13 (z31 (M 13))) c 0
noncomputable def lrK (M : Mt) (c : Int) : Nat := lea (fun k => ¬ 1 < lnF (lrN (lrA M c) k) (M 1 0).toNat)
noncomputable def lrB (M : Mt) (c : Int) : Mt := lrN (lrA M c) (lrK M c)
def wlM (M : Mt) : Mt := sM M 14 (fun v => if 0 ≤ v ∧ v < 31 then M 12 v else M 14 v)
noncomputable def dpF (M : Mt) (i : Int) : Int → Int := fun v => if 1 ≤ v ∧ v < i then cif (M 12 v = 1 ∧ ¬ drp M v) 1 0 else M 12 v
noncomputable def dpM (M : Mt) : Mt := sM M 12 (dpF M (M 1 0 + 1))
noncomputable def lrD (M : Mt) (c : Int) : Mt := dpM (wlM (lrB M c))
noncomputable def lrnM (M : Mt) (c : Int) : Mt := lnM (lrD M c)
theorem z31_01 (f : Int → Int) : b01 (z31 f) := fun v v0 v1 => Or.inl (if_pos (by omega))
theorem lrA_q (M : Mt) (c : Int) {q : Nat} (h2 : q ≠ 12) (h3 : q ≠ 13) : lrA M c q = M q := by
  unfold lrA brM
  rw [sM_n _ _ h3, sM_n _ _ h2, sM_n _ _ h3, sM_n _ _ h2]
theorem lrA_12 (M : Mt) (c : Int) : lrA M c 12 = brF M c 0 (siz (M 1) c).toNat (z31 (M 12)) := by
  unfold lrA brM
  rw [sM_n _ _ (show (12 : Nat) ≠ 13 by decide), sM_s]
  exact brF_cgM (M := M) (N := sM (sM M 12 (z31 (M 12))) 13 (z31 (M 13))) rfl rfl _ _ _ _
theorem lrA_13 (M : Mt) (c : Int) : lrA M c 13 = brF M c 0 (siz (M 1) c).toNat (z31 (M 13)) := by
  unfold lrA brM
  rw [sM_s]
  exact brF_cgM (M := M) (N := sM (sM M 12 (z31 (M 12))) 13 (z31 (M 13))) rfl rfl _ _ _ _
/-- a false clause has a literal of the level -/
theorem LI.conf {M : Mt} (hK : TK M) (hR : RI (M 1)) {c : Int} (c0 : 0 ≤ c) (c1 : c < M 1 1) (hf : ¬ 2 ≤ flg (M 1) c) (ho : opn (M 1) (M 5) c = 0) (hl : 0 < M 11 0) : LI (lrA M c) := by
  obtain ⟨h1, h2, h3, h4⟩ := hK
  have hV := hR.V
  have hfa := opn_0 ho
  have e1 : lrA M c 1 = M 1 := lrA_q M c (by decide) (by decide)
  have e5 : lrA M c 5 = M 5 := lrA_q M c (by decide) (by decide)
  have e6 : lrA M c 6 = M 6 := lrA_q M c (by decide) (by decide)
  have e11 : lrA M c 11 = M 11 := lrA_q M c (by decide) (by decide)
  have hlk : ∀ k : Int, 0 ≤ k → k < siz (M 1) c → lok (M 1 0) (lit (M 1) c k) := (hR.cl c0 c1).2.2.2.2
  refine ⟨?_, ?_, ?_, ?_⟩
  · intro v v0 v1 hv
    rw [e1] at v1
    rw [lrA_12] at hv
    rw [e5, e6]
    rcases brF_cases hv with q | ⟨k, k0, k1, k2, k3, k4⟩
    · have : z31 (M 12) v = 0 := if_pos (by omega)
      omega
    · have hu := hlk k k0 (by omega)
      have hne := trv_ne hu (by have := hfa k k0 (by omega); omega)
      rw [k2] at hne
      obtain ⟨p0, p1, p2⟩ := h1.1.of v0 v1 hne
      have := (h1.2.1 _ p0 p1).1
      rw [p2] at this
      exact ⟨hne, by omega⟩
  · rw [lrA_12]; exact brF_01 (z31_01 _) _
  · rw [lrA_13]; exact brF_01 (z31_01 _) _
  · rw [e1]
    -- were none of the level, the clause had been false below it
    have hex : ∃ k : Int, 0 ≤ k ∧ k < siz (M 1) c ∧ M 6 (iab (lit (M 1) c k)) = M 11 0 := by
      by_cases q : ∃ k : Int, 0 ≤ k ∧ k < siz (M 1) c ∧ M 6 (iab (lit (M 1) c k)) = M 11 0
      · exact q
      · exfalso
        refine (h4 (M 11 0 - 1) (by omega) (by omega) c c0 c1 hf).1 (opn_of0 (fun k k0 k1 => ?_))
        have hu := hlk k k0 k1
        have hfk := hfa k k0 k1
        obtain ⟨p0, p1, p2⟩ := h1.1.pla hu (by omega)
        have hle := h3 _ p0 p1
        rw [p2] at hle
        have hne : M 6 (iab (lit (M 1) c k)) ≠ M 11 0 := fun e => q ⟨k, k0, k1, e⟩
        rw [trv_iab hu.1] at hfk ⊢
        unfold cut
        rw [if_pos (show M 6 (iab (lit (M 1) c k)) ≤ M 11 0 - 1 by omega)]
        exact hfk
    obtain ⟨k, k0, k1, k2⟩ := hex
    have hu := hlk k k0 k1
    have hi := iab_lok hu
    refine lnF_pos (v := iab (lit (M 1) c k)) _ hi.1 (by omega) ⟨?_, ?_⟩
    · rw [lrA_12]
      exact brF_in _ ⟨k, k0, by omega, rfl, by omega, by omega⟩
    · rw [e6, e11]; exact k2
/-- TC, RI, TK don't look at marks -/
theorem TC.mark {M N : Mt} (h : TC M) (e : ∀ q : Nat, q ≠ 12 → q ≠ 13 → q ≠ 14 → N q = M q) : TC N := by
  have e1 := e 1 (by decide) (by decide) (by decide)
  have e5 := e 5 (by decide) (by decide) (by decide)
  have e6 := e 6 (by decide) (by decide) (by decide)
  have e7 := e 7 (by decide) (by decide) (by decide)
  have e8 := e 8 (by decide) (by decide) (by decide)
  have e9 := e 9 (by decide) (by decide) (by decide)
  have e10 := e 10 (by decide) (by decide) (by decide)
  unfold TC T0 Rsn at *
  rw [e1, e5, e6, e7, e8, e9, e10]
  exact h
theorem TK.mark {M N : Mt} (h : TK M) (e : ∀ q : Nat, q ≠ 12 → q ≠ 13 → q ≠ 14 → N q = M q) : TK N := by
  refine ⟨h.1.mark e, ?_⟩
  have e1 := e 1 (by decide) (by decide) (by decide)
  have e5 := e 5 (by decide) (by decide) (by decide)
  have e6 := e 6 (by decide) (by decide) (by decide)
  have e9 := e 9 (by decide) (by decide) (by decide)
  have e10 := e 10 (by decide) (by decide) (by decide)
  have e11 := e 11 (by decide) (by decide) (by decide)
  have h2 := h.2
  unfold TH at *
  rw [e1, e5, e6, e9, e10, e11]
  exact h2
theorem TR.mark {M N : Mt} (h : TR M) (e : ∀ q : Nat, q ≠ 12 → q ≠ 13 → q ≠ 14 → N q = M q) (h12 : b01 (N 12)) (h13 : b01 (N 13)) (h14 : b01 (N 14)) : TR N := by
  have e5 := e 5 (by decide) (by decide) (by decide)
  have e6 := e 6 (by decide) (by decide) (by decide)
  have e7 := e 7 (by decide) (by decide) (by decide)
  have e8 := e 8 (by decide) (by decide) (by decide)
  have e9 := e 9 (by decide) (by decide) (by decide)
  have e10 := e 10 (by decide) (by decide) (by decide)
  have e11 := e 11 (by decide) (by decide) (by decide)
  obtain ⟨a1, a2, a3, a4, a5, a6, a7, a8⟩ := h
  unfold TR
  rw [e5, e6, e7, e8, e9, e10, e11]
  exact ⟨a1, a2, a3, a4, a5, a6, a7, h12, h13, h14⟩
/-- all along the resolutions -/
theorem lr_run {M : Mt} (hC : TC M) (hR : RI (M 1)) (h : LI M) : ∀ n : Nat, (∀ k : Nat, k < n → 1 < lnF (lrN M k) (M 1 0).toNat) → LI (lrN M n) ∧ ∀ q : Nat, q ≠ 12 → q ≠ 13 → lrN M n q = M q
  | 0, _ => ⟨h, fun _ _ _ => rfl⟩
  | n + 1, hk => by
    obtain ⟨i1, i2⟩ := lr_run hC hR h n (fun k hk9 => hk k (by omega))
    have e1 := i2 1 (by decide) (by decide)
    refine ⟨(LI.step (hC.mark (fun q a b _ => i2 q a b)) (by rw [e1]; exact hR) i1 (by rw [e1]; exact hk n (by omega))).2.2.1, fun q a b => ?_⟩
    rw [lrN, lrM_q _ a b]
    exact i2 q a b
/-- the resolutions end -/
theorem lr_end {M : Mt} (hC : TC M) (hR : RI (M 1)) : ∀ (m : Nat) (n : Nat) (h : LI M), (∀ k : Nat, k < n → 1 < lnF (lrN M k) (M 1 0).toNat) → (lrN M n 8 (laF (lrN M n) (M 1 0).toNat) + 1).toNat < m → ∃ k : Nat, ¬ 1 < lnF (lrN M k) (M 1 0).toNat ∧ ∀ j : Nat, j < k → 1 < lnF (lrN M j) (M 1 0).toNat := by
  intro m
  induction m with
  | zero => intro n h hk hm; omega
  | succ m ih =>
    intro n h hk hm
    by_cases e : 1 < lnF (lrN M n) (M 1 0).toNat
    · obtain ⟨i1, i2⟩ := lr_run hC hR h n hk
      have e1 := i2 1 (by decide) (by decide)
      have st := LI.step (hC.mark (fun q a b _ => i2 q a b)) (by rw [e1]; exact hR) i1 (by rw [e1]; exact e)
      have s4 := st.2.2.2.1
      have s5 := st.2.2.2.2
      rw [lrM_q _ (show (1 : Nat) ≠ 12 by decide) (show (1 : Nat) ≠ 13 by decide), e1] at s4
      rw [e1] at s5
      refine ih (n + 1) h (fun k hk9 => ?_) ?_
      · by_cases e9 : k = n
        · rw [e9]; exact e
        · exact hk k (by omega)
      · rw [lrN]
        omega
    · exact ⟨n, e, hk⟩
theorem lrK_ok {M : Mt} {c : Int} (hC : TC M) (hR : RI (M 1)) (h : LI (lrA M c)) : ¬ 1 < lnF (lrN (lrA M c) (lrK M c)) (M 1 0).toNat ∧ ∀ j : Nat, j < lrK M c → 1 < lnF (lrN (lrA M c) j) (M 1 0).toNat := by
  have e1 : lrA M c 1 = M 1 := lrA_q M c (by decide) (by decide)
  have hC' : TC (lrA M c) := hC.mark (fun q a b _ => lrA_q M c a b)
  obtain ⟨k, k1, k2⟩ := lr_end hC' (by rw [e1]; exact hR) _ 0 h (fun k hk => by omega) (Nat.lt_succ_self _)
  rw [e1] at k1 k2
  have : lrK M c = k := lea_at k1 (fun j hj q => q (k2 j hj))
  rw [this]
  exact ⟨k1, k2⟩
theorem lnF_cg {M N : Mt} : ∀ n : Nat, (∀ v : Int, 1 ≤ v → v ≤ n → (lnP M v ↔ lnP N v)) → lnF M n = lnF N n
  | 0, _ => rfl
  | n + 1, h => by
    have ih := lnF_cg n (fun v v0 v1 => h v v0 (by omega))
    have q := h ((n : Int) + 1) (by omega) (by omega)
    unfold lnP at q
    unfold lnF
    rw [ih]
    by_cases e : M 12 ((n : Int) + 1) = 1 ∧ M 6 ((n : Int) + 1) = M 11 0
    · rw [if_pos e, if_pos (q.mp e)]
    · rw [if_neg e, if_neg (fun z => e (q.mpr z))]
theorem lrB_q {M : Mt} {c : Int} {q : Nat} (a : q ≠ 12) (b : q ≠ 13) : lrB M c q = M q := by
  unfold lrB
  rw [lrN_q _ a b, lrA_q _ _ a b]
theorem lrD_q {M : Mt} {c : Int} {q : Nat} (a : q ≠ 12) (b : q ≠ 13) (d : q ≠ 14) : lrD M c q = M q := by
  unfold lrD dpM wlM
  rw [sM_n _ _ a, sM_n _ _ d]
  exact lrB_q a b
theorem dpF_01 {M : Mt} (h : b01 (M 12)) (i : Int) : b01 (dpF M i) := fun v v0 v1 => by
  unfold dpF
  split
  · exact cif_rg _
  · exact h v v0 v1
theorem lrD_ok {M : Mt} (hK : TK M) (hR : RI (M 1)) (hT : TR M) {c : Int} (c0 : 0 ≤ c) (c1 : c < M 1 1) (hf : ¬ 2 ≤ flg (M 1) c) (ho : opn (M 1) (M 5) c = 0) (hl : 0 < M 11 0) : LI (lrB M c) ∧ TK (lrD M c) ∧ TR (lrD M c) ∧ LJ (lrD M c) := by
  have hA := LI.conf hK hR c0 c1 hf ho hl
  obtain ⟨k1, k2⟩ := lrK_ok hK.1 hR hA
  have e1A : lrA M c 1 = M 1 := lrA_q M c (by decide) (by decide)
  have hCA : TC (lrA M c) := hK.1.mark (fun q a b _ => lrA_q M c a b)
  have hB : LI (lrB M c) := (lr_run hCA (by rw [e1A]; exact hR) hA (lrK M c) (fun k hk => by rw [e1A]; exact k2 k hk)).1
  have e1 : lrB M c 1 = M 1 := lrB_q (by decide) (by decide)
  have e5 : lrB M c 5 = M 5 := lrB_q (by decide) (by decide)
  have e6 : lrB M c 6 = M 6 := lrB_q (by decide) (by decide)
  have e11 : lrB M c 11 = M 11 := lrB_q (by decide) (by decide)
  obtain ⟨b1, b2, b3, b4⟩ := hB
  have hV := hR.V
  have hmk : ∀ q : Nat, q ≠ 12 → q ≠ 13 → q ≠ 14 → lrD M c q = M q := fun q a b d => lrD_q a b d
  have h14 : b01 (lrD M c 14) := by
    show b01 (fun v => if 0 ≤ v ∧ v < 31 then lrB M c 12 v else lrB M c 14 v)
    intro v v0 v1
    dsimp only
    rw [if_pos (by omega)]
    exact b2 v v0 v1
  have hD12 : lrD M c 12 = dpF (wlM (lrB M c)) (M 1 0 + 1) := by
    unfold lrD dpM
    rw [sM_s]
    show dpF (wlM (lrB M c)) (lrB M c 1 0 + 1) = _
    rw [e1]
  refine ⟨⟨b1, b2, b3, b4⟩, hK.mark hmk, hT.mark hmk (by rw [hD12]; exact dpF_01 (by exact b2) _) (by exact b3) h14, ?_, ?_⟩
  · intro v v0 v1 hv
    rw [hmk 1 (by decide) (by decide) (by decide)] at v1
    rw [hmk 5 (by decide) (by decide) (by decide), hmk 6 (by decide) (by decide) (by decide), hmk 11 (by decide) (by decide) (by decide)]
    rw [hD12] at hv
    unfold dpF at hv
    rw [if_pos (by omega)] at hv
    have hv9 : lrB M c 12 v = 1 := by
      by_cases q : wlM (lrB M c) 12 v = 1 ∧ ¬ drp (wlM (lrB M c)) v
      · exact q.1
      · rw [cif_f q] at hv; omega
    have := b1 v v0 (by rw [e1]; exact v1) hv9
    rw [e5, e6] at this
    obtain ⟨p0, p1, p2⟩ := hK.1.1.of v0 v1 this.1
    have h3 := hK.2.2.1 _ p0 p1
    rw [p2] at h3
    exact ⟨this.1, this.2, h3⟩
  · rw [hmk 1 (by decide) (by decide) (by decide)]
    rw [e1] at b4
    have k1' : ¬ 1 < lnF (lrB M c) (M 1 0).toNat := k1
    have e : lnF (lrD M c) (M 1 0).toNat = lnF (lrB M c) (M 1 0).toNat := by
      refine lnF_cg _ (fun v v0 v1 => ?_)
      unfold lnP
      rw [hmk 6 (by decide) (by decide) (by decide), hmk 11 (by decide) (by decide) (by decide), e6, e11, hD12]
      unfold dpF
      rw [if_pos (by omega)]
      constructor
      · rintro ⟨x, y⟩
        refine ⟨?_, y⟩
        by_cases q : wlM (lrB M c) 12 v = 1 ∧ ¬ drp (wlM (lrB M c)) v
        · exact q.1
        · rw [cif_f q] at x; omega
      · rintro ⟨x, y⟩
        refine ⟨cif_t ⟨x, fun z => z.1 (Or.inl ?_)⟩, y⟩
        show lrB M c 6 v = lrB M c 11 0
        rw [e6, e11]
        exact y
    omega
theorem lrn_ok {M : Mt} (hK : TK M) (hR : RI (M 1)) (hT : TR M) {c : Int} (c0 : 0 ≤ c) (c1 : c < M 1 1) (hf : ¬ 2 ≤ flg (M 1) c) (ho : opn (M 1) (M 5) c = 0) (hl : 0 < M 11 0) (hm : M 1 1 < 400) : TK (lrnM M c) ∧ RI (lrnM M c 1) ∧ TR (lrnM M c) ∧ (∀ q : Nat, q ≠ 1 → q ≠ 5 → q ≠ 6 → q ≠ 7 → q ≠ 8 → q ≠ 9 → q ≠ 10 → q ≠ 11 → q ≠ 12 → q ≠ 13 → q ≠ 14 → lrnM M c q = M q) := by
  obtain ⟨-, a2, a3, a4⟩ := lrD_ok hK hR hT c0 c1 hf ho hl
  have e1 : lrD M c 1 = M 1 := lrD_q (by decide) (by decide) (by decide)
  obtain ⟨b1, b2, b3, b4⟩ := TK.learn a2 (by rw [e1]; exact hR) a3 (by rw [e1]; exact hm) a4
  exact ⟨b1, b2, b3, fun q q1 q5 q6 q7 q8 q9 q10 q11 q12 q13 q14 => (b4 q q1 q5 q6 q7 q8 q9 q10 q11).trans (lrD_q q12 q13 q14)⟩

/-! STEPS OF A SEARCH -/
theorem beF_ok {R s : Int → Int} : ∀ n : Nat, beF R s n ≠ 0 → s (beF R s n) = 0
  | 0, h => by simp [beF] at h
  | n + 1, h => by
    unfold beF at h ⊢
    split
    · rename_i q
      exact q.1
    · rename_i q
      rw [if_neg q] at h
      exact beF_ok n h
theorem fst9_ok {R s : Int → Int} {m : Int} (h : fst9 R s m ≠ -1) : 0 ≤ fst9 R s m ∧ fst9 R s m < R 1 ∧ ¬ 2 ≤ flg R (fst9 R s m) ∧ opn R s (fst9 R s m) = m := by
  rcases lst_cases (fun c => ¬ 2 ≤ flg R c ∧ opn R s c = m) (R 1) with q | q
  · exact absurd q.1 h
  · exact ⟨q.1, q.2.1, q.2.2.1.1, q.2.2.1.2⟩
theorem fst9_no {R s : Int → Int} {m : Int} (h : fst9 R s m = -1) : ∀ c : Int, 0 ≤ c → c < R 1 → ¬ 2 ≤ flg R c → opn R s c ≠ m := by
  rcases lst_cases (fun c => ¬ 2 ≤ flg R c ∧ opn R s c = m) (R 1) with q | q
  · exact fun c c0 c1 hf ho => q.2 c c0 c1 ⟨hf, ho⟩
  · have : 0 ≤ fst9 R s m := q.1
    omega
/-- what is done at a conflict -/
noncomputable def cfN (M : Mt) (c : Int) : Mt := saM (oM (lrnM M c) 15 0 (M 15 0 + 1))
noncomputable def cfM (M : Mt) (c bud : Int) : Int × Mt := if M 11 0 = 0 then (0, enM (rfM M) 0) else if M 1 1 = 400 then (3, enM M 3) else if M 15 0 + 1 = bud then (2, enM (cfN M c) 2) else (-1, cfN M c)
noncomputable def asK (M : Mt) : Int := lst (fun k => trv (M 5) (M 1 (16 + k)) ≤ 0) (M 1 3)
noncomputable def coM (M : Mt) (a : Int) : (Int → Int) × Int := coF M (M 10 0).toNat (one9 (M 12) (iab (M 1 (16 + a)))) (shl9 1 a)
noncomputable def beV (M : Mt) : Int := beF (M 1) (M 5) (M 1 0).toNat
noncomputable def spM (M : Mt) (bud : Int) : Int × Mt :=
  if fst9 (M 1) (M 5) 0 ≠ -1 then cfM M (fst9 (M 1) (M 5) 0) bud
  else if fst9 (M 1) (M 5) 1 ≠ -1 then (-1, cmM (oM M 1 10 (M 1 10 + 1)) (opo (M 1) (M 5) (fst9 (M 1) (M 5) 1)) (fst9 (M 1) (M 5) 1))
  else if asK M ≠ -1 then (if trv (M 5) (M 1 (16 + asK M)) < 0 then (0, enM (oM (sM M 12 (coM M (asK M)).1) 1 13 (coM M (asK M)).2) 0) else (-1, cmM (oM M 11 0 (M 11 0 + 1)) (M 1 (16 + asK M)) (-1)))
  else if beV M = 0 then (1, enM M 1) else (-1, cmM (oM (oM M 11 0 (M 11 0 + 1)) 1 9 (M 1 9 + 1)) (if M 1 (32 + beV M) = 1 then beV M else -(beV M)) (-1))
/-- all that holds between steps -/
def SI9 (M : Mt) (bud : Int) : Prop := TK M ∧ RI (M 1) ∧ TR M ∧ (0 ≤ M 15 0 ∧ M 15 0 < bud) ∧ (0 ≤ M 16 0 ∧ M 16 0 ≤ M 15 0) ∧ (0 ≤ M 17 0 ∧ M 17 0 ≤ M 15 0)
theorem Rq.cnt9 (R : Int → Int) {j : Int} (v : Int) (h : 8 ≤ j ∧ j ≤ 13) : Rq R (oI R j v) := ⟨oI_n _ _ (by omega), oI_n _ _ (by omega), oI_n _ _ (by omega), fun i i0 i1 => oI_n _ _ (by omega), fun i i0 => oI_n _ _ (by omega)⟩
theorem RI.cnt9 {R : Int → Int} (h : RI R) {j : Int} (v : Int) (hj : 8 ≤ j ∧ j ≤ 13) : RI (oI R j v) := h.ext (fun i hi => oI_n _ _ (fun e => hi (by unfold RIx; omega)))
theorem TK.cnt9 {M : Mt} (h : TK M) (hR : RI (M 1)) {j : Int} (v : Int) (hj : 8 ≤ j ∧ j ≤ 13) : TK (oM M 1 j v) := by
  rw [oM_eq]
  exact h.rq hR (Rq.cnt9 _ v hj)
theorem TK.aux {M : Mt} (h : TK M) {q : Nat} (i v : Int) (hq : 15 ≤ q) : TK (oM M q i v) := by
  have e : ∀ p : Nat, p ≤ 11 → oM M q i v p = M p := fun p hp => oM_n _ _ _ (by omega)
  unfold TK TC T0 Rsn TH at *
  simp only [e 1 (by decide), e 5 (by decide), e 6 (by decide), e 7 (by decide), e 8 (by decide), e 9 (by decide), e 10 (by decide), e 11 (by decide)]
  exact h
theorem TR.aux {M : Mt} (h : TR M) {q : Nat} (i v : Int) (hq : 15 ≤ q) : TR (oM M q i v) := by
  have e : ∀ p : Nat, p ≤ 14 → oM M q i v p = M p := fun p hp => oM_n _ _ _ (by omega)
  unfold TR at *
  simp only [e 5 (by decide), e 6 (by decide), e 7 (by decide), e 8 (by decide), e 9 (by decide), e 10 (by decide), e 11 (by decide), e 12 (by decide), e 13 (by decide), e 14 (by decide)]
  exact h
theorem lvM_q (M : Mt) (b : Int) {q : Nat} (q1 : q ≠ 1) (q5 : q ≠ 5) (q10 : q ≠ 10) (q11 : q ≠ 11) : lvM M b q = M q := by
  have key : ∀ (n : Nat) (M : Mt), lvF b n M q = M q := by
    intro n
    induction n with
    | zero => intro M; rfl
    | succ n ih =>
      intro M
      rw [lvF]
      split
      · rw [ih]
        unfold popM
        rw [oM_n _ _ _ q5, oM_n _ _ _ q1, oM_n _ _ _ q10]
      · rfl
  unfold lvM
  rw [oM_n _ _ _ q11]
  exact key _ M
/-- a start anew -/
theorem sa_ok {M : Mt} (hK : TK M) (hR : RI (M 1)) (hT : TR M) : TK (saM M) ∧ RI (saM M 1) ∧ TR (saM M) ∧ saM M 15 0 = M 15 0 ∧ (saM M 16 0 = 0 ∨ saM M 16 0 = M 16 0 + 1) ∧ (saM M 17 0 = M 17 0 ∨ saM M 17 0 = M 17 0 + 1) ∧ saM M 10 0 ≤ M 10 0 := by
  unfold saM
  split
  · exact ⟨hK.aux 0 _ (by decide), hR, hT.aux 0 _ (by decide), rfl, Or.inr rfl, Or.inl rfl, Int.le_refl _⟩
  · have hK1 : TK (oM (oM (oM M 16 0 (M 16 0 + 1)) 17 0 (M 17 0 + 1)) 16 0 0) := ((hK.aux 0 _ (by decide)).aux 0 _ (by decide)).aux 0 _ (by decide)
    have hR1 : RI (oM (oM (oM M 16 0 (M 16 0 + 1)) 17 0 (M 17 0 + 1)) 16 0 0 1) := hR
    have hK2 : TK (oM (oM (oM (oM M 16 0 (M 16 0 + 1)) 17 0 (M 17 0 + 1)) 16 0 0) 1 11 (M 1 11 + 1)) := hK1.cnt9 hR1 _ (by omega)
    have hR2 : RI (oM (oM (oM (oM M 16 0 (M 16 0 + 1)) 17 0 (M 17 0 + 1)) 16 0 0) 1 11 (M 1 11 + 1) 1) := hR.cnt9 (M 1 11 + 1) (j := 11) (by omega)
    have hT2 : TR (oM (oM (oM (oM M 16 0 (M 16 0 + 1)) 17 0 (M 17 0 + 1)) 16 0 0) 1 11 (M 1 11 + 1)) := (((hT.aux 0 _ (by decide)).aux 0 _ (by decide)).aux 0 _ (by decide)).row1 11 _
    have h11 := hK2.2.1
    obtain ⟨i1, i2, i3, i4, i5, i6, i7, i8⟩ := lvM_spec hK2.1 hT2 hR2 0 (by omega)
    refine ⟨hK2.lv hT2 hR2 ⟨Int.le_refl _, h11.1⟩ (Or.inl rfl), i3, i2, ?_, Or.inl ?_, Or.inr ?_, ?_⟩
    · rw [i5 15 (by decide) (by decide) (by decide) (by decide)]; rfl
    · rw [i5 16 (by decide) (by decide) (by decide) (by decide)]; rfl
    · rw [i5 17 (by decide) (by decide) (by decide) (by decide)]; rfl
    · exact i7
theorem SI9.cf {M : Mt} {bud c : Int} (h : SI9 M bud) (c0 : 0 ≤ c) (c1 : c < M 1 1) (hf : ¬ 2 ≤ flg (M 1) c) (ho : opn (M 1) (M 5) c = 0) (h0 : M 11 0 ≠ 0) (hm : M 1 1 ≠ 400) : TK (lrnM M c) ∧ RI (lrnM M c 1) ∧ TR (lrnM M c) ∧ lrnM M c 15 = M 15 ∧ lrnM M c 16 = M 16 ∧ lrnM M c 17 = M 17 ∧ TK (cfN M c) ∧ RI (cfN M c 1) ∧ TR (cfN M c) ∧ cfN M c 15 0 = M 15 0 + 1 ∧ (0 ≤ cfN M c 16 0 ∧ cfN M c 16 0 ≤ M 15 0 + 1) ∧ (0 ≤ cfN M c 17 0 ∧ cfN M c 17 0 ≤ M 15 0 + 1) := by
  obtain ⟨hK, hR, hT, h15, h16, h17⟩ := h
  have hmy := hR.many
  have h11 := hK.2.1
  obtain ⟨a1, a2, a3, a4⟩ := lrn_ok hK hR hT c0 c1 hf ho (by omega) (by omega)
  have e15 : lrnM M c 15 = M 15 := a4 15 (by decide) (by decide) (by decide) (by decide) (by decide) (by decide) (by decide) (by decide) (by decide) (by decide) (by decide)
  have e16 : lrnM M c 16 = M 16 := a4 16 (by decide) (by decide) (by decide) (by decide) (by decide) (by decide) (by decide) (by decide) (by decide) (by decide) (by decide)
  have e17 : lrnM M c 17 = M 17 := a4 17 (by decide) (by decide) (by decide) (by decide) (by decide) (by decide) (by decide) (by decide) (by decide) (by decide) (by decide)
  obtain ⟨b1, b2, b3, b4, b5, b6, b7⟩ := sa_ok (M := oM (lrnM M c) 15 0 (M 15 0 + 1)) (a1.aux 0 _ (by decide)) a2 (a3.aux 0 _ (by decide))
  have g15 : oM (lrnM M c) 15 0 (M 15 0 + 1) 15 0 = M 15 0 + 1 := rfl
  have g16 : oM (lrnM M c) 15 0 (M 15 0 + 1) 16 0 = M 16 0 := by show lrnM M c 16 0 = _; rw [e16]
  have g17 : oM (lrnM M c) 15 0 (M 15 0 + 1) 17 0 = M 17 0 := by show lrnM M c 17 0 = _; rw [e17]
  rw [g15] at b4
  rw [g16] at b5
  rw [g17] at b6
  exact ⟨a1, a2, a3, e15, e16, e17, b1, b2, b3, b4, by unfold cfN; omega, by unfold cfN; omega⟩
theorem as_ok {M : Mt} (hR : RI (M 1)) (h : asK M ≠ -1) : 0 ≤ asK M ∧ asK M < M 1 3 ∧ trv (M 5) (M 1 (16 + asK M)) ≤ 0 ∧ lok (M 1 0) (M 1 (16 + asK M)) := by
  rcases lst_cases (fun k => trv (M 5) (M 1 (16 + k)) ≤ 0) (M 1 3) with q | q
  · exact absurd q.1 h
  · exact ⟨q.1, q.2.1, q.2.2.1, hR.asl q.1 q.2.1⟩
theorem trv_0 {s : Int → Int} {l : Int} (hl : l ≠ 0) (h : trv s l = 0) : s (iab l) = 0 := by
  rw [trv_iab hl] at h
  split at h <;> omega
theorem be_ok {M : Mt} (hR : RI (M 1)) (h : beV M ≠ 0) : (1 ≤ beV M ∧ beV M ≤ M 1 0) ∧ M 5 (beV M) = 0 := by
  have hV := hR.V
  have := beF_rg (M 1) (M 5) (M 1 0).toNat
  refine ⟨?_, beF_ok _ h⟩
  unfold beV at *
  omega
/-- measure of what is left -/
def spU (M : Mt) (bud : Int) : Nat := (31 * (bud - M 15 0) + (30 - M 10 0)).toNat
theorem SI9.step {M : Mt} {bud : Int} (h : SI9 M bud) (hs : (spM M bud).1 = -1) : SI9 (spM M bud).2 bud ∧ spU (spM M bud).2 bud < spU M bud := by
  have h' := h
  obtain ⟨hK, hR, hT, h15, h16, h17⟩ := h
  have hV := hR.V
  have hn := hT.trd
  unfold spM at hs ⊢
  split at hs
  · rename_i q
    rw [if_pos q]
    obtain ⟨c0, c1, hf, ho⟩ := fst9_ok q
    unfold cfM at hs ⊢
    split at hs
    · exact absurd hs (by simp)
    rename_i q1
    split at hs
    · exact absurd hs (by simp)
    rename_i q2
    split at hs
    · exact absurd hs (by simp)
    rename_i q3
    rw [if_neg q1, if_neg q2, if_neg q3]
    obtain ⟨-, -, -, -, -, -, b1, b2, b3, b4, b5, b6⟩ := h'.cf c0 c1 hf ho q1 q2
    have b7 := b3.trd
    refine ⟨⟨b1, b2, b3, ?_, ?_, ?_⟩, ?_⟩
    · show 0 ≤ cfN M (fst9 (M 1) (M 5) 0) 15 0 ∧ cfN M (fst9 (M 1) (M 5) 0) 15 0 < bud
      omega
    · show 0 ≤ cfN M (fst9 (M 1) (M 5) 0) 16 0 ∧ cfN M (fst9 (M 1) (M 5) 0) 16 0 ≤ cfN M (fst9 (M 1) (M 5) 0) 15 0
      omega
    · show 0 ≤ cfN M (fst9 (M 1) (M 5) 0) 17 0 ∧ cfN M (fst9 (M 1) (M 5) 0) 17 0 ≤ cfN M (fst9 (M 1) (M 5) 0) 15 0
      omega
    · unfold spU
      show (31 * (bud - cfN M (fst9 (M 1) (M 5) 0) 15 0) + (30 - cfN M (fst9 (M 1) (M 5) 0) 10 0)).toNat < _
      omega
  rename_i q0
  rw [if_neg q0]
  have q0' : fst9 (M 1) (M 5) 0 = -1 := Classical.byContradiction q0
  split at hs
  · rename_i q
    rw [if_pos q]
    obtain ⟨c0, c1, hf, ho⟩ := fst9_ok q
    obtain ⟨u1, u2, u3⟩ := (hK.cnt9 hR (j := 10) (M 1 10 + 1) (by omega)).unit (hR.cnt9 _ (by omega)) (c := fst9 (M 1) (M 5) 1) ⟨c0, by rw [oM_s, oI_n _ _ (by omega)]; exact c1⟩ (by rw [oM_s, (Rq.cnt9 (M 1) (M 1 10 + 1) (j := 10) (by omega)).opn _ c0]; exact ho)
    have eo : opo (oM M 1 10 (M 1 10 + 1) 1) (oM M 1 10 (M 1 10 + 1) 5) (fst9 (M 1) (M 5) 1) = opo (M 1) (M 5) (fst9 (M 1) (M 5) 1) := by
      have hq := Rq.cnt9 (M 1) (M 1 10 + 1) (j := 10) (by omega)
      obtain ⟨k, k0, k1, k2, k3, k4⟩ := opn_1 ho
      obtain ⟨k', k0', k1', k2', k3', k4'⟩ := opn_1 (R := oI (M 1) 10 (M 1 10 + 1)) (s := M 5) (by rw [hq.opn _ c0]; exact ho)
      rw [hq.siz c0] at k1' k4'
      rw [hq.lit c0 k0'] at k2' k3'
      rw [k3]
      show opo (oI (M 1) 10 (M 1 10 + 1)) (M 5) _ = _
      rw [k3']
      by_cases e : k' = k
      · rw [e]
      · have := k4 k' k0' k1' e
        omega
    rw [eo] at u1 u2 u3
    have e10 : oM M 1 10 (M 1 10 + 1) 1 0 = M 1 0 := oI_n (M 1) (i := 10) (j := 0) (M 1 10 + 1) (by omega)
    rw [e10] at u1
    have hi := iab_lok u1
    have hlt := hK.1.1.lt hV.1 hi.1 hi.2 u2
    refine ⟨⟨u3, hR.cnt9 (M 1 10 + 1) (j := 10) (by omega), ?_, h15, h16, h17⟩, ?_⟩
    · refine (hT.row1 10 (M 1 10 + 1)).cm ?_ ?_ ⟨by omega, by have := hR.many; omega⟩
      · unfold lok at *; omega
      · show M 10 0 < 30
        omega
    · unfold spU
      show (31 * (bud - M 15 0) + (30 - (M 10 0 + 1))).toNat < _
      omega
  rename_i q1
  rw [if_neg q1]
  have q1' : fst9 (M 1) (M 5) 1 = -1 := Classical.byContradiction q1
  have hno : ∀ c : Int, 0 ≤ c → c < M 1 1 → ¬ 2 ≤ flg (M 1) c → opn (M 1) (M 5) c ≠ 0 ∧ opn (M 1) (M 5) c ≠ 1 := fun c c0 c1 hf => ⟨fst9_no q0' c c0 c1 hf, fst9_no q1' c c0 c1 hf⟩
  split at hs
  · rename_i q
    rw [if_pos q]
    obtain ⟨a0, a1, a2, a3⟩ := as_ok hR q
    split at hs
    · exact absurd hs (by simp)
    rename_i q2
    rw [if_neg q2]
    have hz := trv_0 a3.1 (show trv (M 5) (M 1 (16 + asK M)) = 0 by omega)
    have hi := iab_lok a3
    have hlt := hK.1.1.lt hV.1 hi.1 hi.2 hz
    refine ⟨⟨hK.dec hR a3 hz hno, hR, ?_, h15, h16, h17⟩, ?_⟩
    · have hT1 : TR (oM M 11 0 (M 11 0 + 1)) := by
        obtain ⟨t1, t2, t3⟩ := hT
        refine ⟨t1, ?_, t3⟩
        show 0 ≤ M 11 0 + 1 ∧ M 11 0 + 1 ≤ 30
        have := hK.2.1
        omega
      refine hT1.cm ?_ ?_ ⟨by omega, by omega⟩
      · unfold lok at *; omega
      · show M 10 0 < 30
        omega
    · unfold spU
      show (31 * (bud - M 15 0) + (30 - (M 10 0 + 1))).toNat < _
      omega
  rename_i q2
  rw [if_neg q2]
  split at hs
  · exact absurd hs (by simp)
  rename_i q3
  rw [if_neg q3]
  obtain ⟨b1, b2⟩ := be_ok hR q3
  have hl : lok (M 1 0) (if M 1 (32 + beV M) = 1 then beV M else -(beV M)) := by unfold lok; split <;> omega
  have hiv : iab (if M 1 (32 + beV M) = 1 then beV M else -(beV M)) = beV M := by unfold iab; (repeat' split) <;> omega
  have hlt := hK.1.1.lt hV.1 b1.1 b1.2 b2
  have hKr := hK.cnt9 hR (j := 9) (M 1 9 + 1) (by omega)
  have hRr : RI (oM M 1 9 (M 1 9 + 1) 1) := hR.cnt9 (j := 9) (M 1 9 + 1) (by omega)
  have e0 : oM M 1 9 (M 1 9 + 1) 1 0 = M 1 0 := oI_n (M 1) (i := 9) (j := 0) (M 1 9 + 1) (by omega)
  have hq := Rq.cnt9 (M 1) (M 1 9 + 1) (j := 9) (by omega)
  have hd := hKr.dec hRr (l := if M 1 (32 + beV M) = 1 then beV M else -(beV M)) (by rw [e0]; exact hl) (by rw [hiv]; exact b2) (fun c c0 c1 hf => by
    have c1' : c < M 1 1 := by rw [oM_s, oI_n _ _ (by omega)] at c1; exact c1
    rw [oM_s, hq.flg c0] at hf
    rw [oM_s, hq.opn _ c0]
    exact hno c c0 c1' hf)
  have ex : oM (oM M 1 9 (M 1 9 + 1)) 11 0 (oM M 1 9 (M 1 9 + 1) 11 0 + 1) = oM (oM M 11 0 (M 11 0 + 1)) 1 9 (M 1 9 + 1) := by
    funext q i
    show oM (oM M 1 9 (M 1 9 + 1)) 11 0 (M 11 0 + 1) q i = _
    unfold oM
    by_cases e1 : q = 1
    · subst e1; rfl
    · by_cases e2 : q = 11
      · subst e2; rfl
      · simp [e1, e2]
  rw [ex] at hd
  refine ⟨⟨hd, hRr, ?_, h15, h16, h17⟩, ?_⟩
  · have hT1 : TR (oM (oM M 11 0 (M 11 0 + 1)) 1 9 (M 1 9 + 1)) := by
      refine TR.row1 ?_ _ _
      obtain ⟨t1, t2, t3⟩ := hT
      refine ⟨t1, ?_, t3⟩
      show 0 ≤ M 11 0 + 1 ∧ M 11 0 + 1 ≤ 30
      have := hK.2.1
      omega
    refine hT1.cm ?_ ?_ ⟨by omega, by omega⟩
    · unfold lok at *; omega
    · show M 10 0 < 30
      omega
  · unfold spU
    show (31 * (bud - M 15 0) + (30 - (M 10 0 + 1))).toNat < _
    omega
