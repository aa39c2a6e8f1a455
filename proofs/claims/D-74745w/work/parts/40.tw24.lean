/-! LINES THAT ARE READ -/
def stq (n : Int) (M : Mt) : Mt := oM (liM M 1 0) 18 n (if liF M 1 0 = 0 then liL M else 0)
theorem stq_hr (n : Int) (M : Mt) : stq n (hrM M) = stq n M := by unfold stq; rw [liF_hr, liM_hr, liL_hr]
def lqN (M : Mt) (n0 : Int) : Nat → Mt
  | 0 => M
  | i + 1 => stq (n0 + i) (lqN M n0 i)
def go8 (M : Mt) : Prop := M 25 0 = 0 ∧ hr M ≠ 59
noncomputable def lqK (M : Mt) (n0 : Int) : Nat := lea (fun i => ¬ go8 (lqN M n0 i))
noncomputable def rlB (M : Mt) : Mt := lqN (clM (hrM M)) (M 19 (M 20 0)) (lqK (clM (hrM M)) (M 19 (M 20 0)))
noncomputable def rlM (M : Mt) : Mt := oM (oM (esM (rlB M)) 20 0 (M 20 0 + 1)) 19 (M 20 0 + 1) (M 19 (M 20 0) + lqK (clM (hrM M)) (M 19 (M 20 0)))
noncomputable def reN (M : Mt) : Nat → Mt
  | 0 => M
  | n + 1 => rlM (reN M n)
noncomputable def reK (M : Mt) : Nat := lea (fun n => ¬ gos (reN M n))
def rsM (M : Mt) : Mt := oM (oM (tsM M) 20 0 0) 19 0 0
theorem dg_end (T : Int → Int) (n : Int) : ∀ (f : Nat) (p : Int), (n - p).toNat ≤ f → ¬ (dg T n p < n ∧ 48 ≤ T (dg T n p) ∧ T (dg T n p) ≤ 57) := by
  intro f
  induction f with
  | zero =>
    intro p hp
    rw [dg_gt (by omega)]
    omega
  | succ f ih =>
    intro p hp
    by_cases q : p < n ∧ 48 ≤ T p ∧ T p ≤ 57
    · rw [dg_in q]
      exact ih (p + 1) (by omega)
    · rw [dg_out q]
      exact q
/-- no digit is at the place -/
def nd (M : Mt) : Prop := ¬ (M 24 0 < M 23 0 ∧ 48 ≤ M 21 (M 24 0) ∧ M 21 (M 24 0) ≤ 57)
theorem stq_q (n : Int) (M : Mt) {q : Nat} (h8 : q ≠ 18) (h4 : q ≠ 24) (h5 : q ≠ 25) (h6 : q ≠ 26) : stq n M q = M q := by
  unfold stq liM
  rw [oM_n _ _ _ h8]
  split
  · rw [oM_n _ _ _ h6, oM_n _ _ _ h4]
  · rw [oM_n _ _ _ h5, oM_n _ _ _ h4]
theorem stq_24 (n : Int) (M : Mt) : stq n M 24 0 = liE M := by
  unfold stq liM
  (repeat' split) <;> first | rfl | contradiction
theorem stq_25 (n : Int) {M : Mt} (h : M 25 0 = 0) : stq n M 25 0 = liF M 1 0 := by
  show liM M 1 0 25 0 = _
  exact li_25 h
theorem lq_q (M : Mt) (n0 : Int) {q : Nat} (h8 : q ≠ 18) (h4 : q ≠ 24) (h5 : q ≠ 25) (h6 : q ≠ 26) : ∀ i : Nat, lqN M n0 i q = M q
  | 0 => rfl
  | i + 1 => by rw [lqN, stq_q _ _ h8 h4 h5 h6]; exact lq_q M n0 h8 h4 h5 h6 i
theorem lq_o {A : Mt} {n0 : Int} (hY : TY A) (hV : 0 ≤ A 1 0 ∧ A 1 0 ≤ 30) (h0 : 0 ≤ n0) (h2 : 2 * n0 ≤ A 24 0) : ∀ i : Nat, (∀ k : Nat, k < i → lqN A n0 k 25 0 = 0) → TY (lqN A n0 i) ∧ (∀ j : Int, j < n0 → lqN A n0 i 18 j = A 18 j) ∧ A 24 0 ≤ lqN A n0 i 24 0 ∧ (lqN A n0 i 25 0 = 0 → 2 * (n0 + i) ≤ lqN A n0 i 24 0 + 1 ∧ (2 * (n0 + i) ≤ lqN A n0 i 24 0 ∨ nd (lqN A n0 i)) ∧ (∀ j : Int, n0 ≤ j → j < n0 + i → lok (A 1 0) (lqN A n0 i 18 j) ∧ lqN A n0 i 26 (iab (lqN A n0 i 18 j)) = 1) ∧ ∀ j d : Int, n0 ≤ j → j < n0 + i → n0 ≤ d → d < n0 + i → iab (lqN A n0 i 18 j) = iab (lqN A n0 i 18 d) → j = d)
  | 0, _ => ⟨hY, fun _ _ => rfl, Int.le_refl _, fun _ => ⟨by show 2 * (n0 + 0) ≤ A 24 0 + 1; omega, Or.inl (by show 2 * (n0 + 0) ≤ A 24 0; omega), fun j j0 j1 => by omega, fun j d j0 j1 => by omega⟩⟩
  | i + 1, h => by
    obtain ⟨a1, a2, a3, a4⟩ := lq_o hY hV h0 h2 i (fun k hk => h k (by omega))
    have hf := h i (by omega)
    obtain ⟨b1, b2, b3, b4⟩ := a4 hf
    have e1 : lqN A n0 i 1 = A 1 := lq_q A n0 (by decide) (by decide) (by decide) (by decide) i
    have e24 : lqN A n0 (i + 1) 24 0 = liE (lqN A n0 i) := stq_24 _ _
    have e25 : lqN A n0 (i + 1) 25 0 = liF (lqN A n0 i) 1 0 := stq_25 _ hf
    have hr := a1.1.li a1.2.1 1 0
    have hYi : TY (lqN A n0 (i + 1)) := a1.li hf 1 0 (by rw [e1]; exact hV)
    refine ⟨hYi, fun j hj => ?_, by omega, fun z => ?_⟩
    · show oI (liM (lqN A n0 i) 1 0 18) (n0 + i) _ j = _
      rw [oI_n _ _ (by omega)]
      have : liM (lqN A n0 i) 1 0 18 = lqN A n0 i 18 := by unfold liM; split <;> rfl
      rw [this]
      exact a2 j hj
    · rw [e25] at z
      have z9 := liF_0 z
      have hplace : 2 * (n0 + (i + 1 : Nat)) ≤ liE (lqN A n0 i) + 1 := by
        rcases b2 with q | q
        · omega
        · have hdig := dg_dig (lqN A n0 i 21) (lqN A n0 i 23 0) _ (liB (lqN A n0 i)) (Nat.le_refl _) (liB (lqN A n0 i)) (Int.le_refl _) (by show liB (lqN A n0 i) < liE (lqN A n0 i); omega)
          have hlt : liB (lqN A n0 i) < lqN A n0 i 23 0 := by
            have := (dg_rg (lqN A n0 i 21) (lqN A n0 i 23 0) (liB (lqN A n0 i)))
            by_cases e : liB (lqN A n0 i) < lqN A n0 i 23 0
            · exact e
            · have e9 : liE (lqN A n0 i) = liB (lqN A n0 i) := dg_gt (by omega)
              omega
          have hne : liB (lqN A n0 i) ≠ lqN A n0 i 24 0 := fun e => q ⟨by omega, by rw [← e]; exact hdig.1, by rw [← e]; exact hdig.2⟩
          omega
      have eN : lqN A n0 (i + 1) = oM (oM (oM (lqN A n0 i) 24 0 (liE (lqN A n0 i))) 26 (liV (lqN A n0 i)) 1) 18 (n0 + i) (liL (lqN A n0 i)) := by
        rw [lqN]
        unfold stq liM
        rw [if_pos z, if_pos z]
      have e8 : ∀ j : Int, lqN A n0 (i + 1) 18 j = if j = n0 + i then liL (lqN A n0 i) else lqN A n0 i 18 j := fun j => by rw [eN]; rfl
      have e6 : lqN A n0 (i + 1) 26 = oI (lqN A n0 i 26) (liV (lqN A n0 i)) 1 := by rw [eN]; rfl
      have hL : iab (liL (lqN A n0 i)) = liV (lqN A n0 i) := (liL_ok a1.1 a1.2.1).2.2.2
      have hlk : lok (A 1 0) (liL (lqN A n0 i)) := by
        have z2 := z9.2.1
        rw [e1] at z2
        unfold lok liL
        split <;> omega
      refine ⟨by rw [e24]; exact hplace, Or.inr ?_, fun j j0 j1 => ?_, fun j d j0 j1 d0 d1 => ?_⟩
      · unfold nd
        rw [e24, lq_q A n0 (q := 21) (by decide) (by decide) (by decide) (by decide), lq_q A n0 (q := 23) (by decide) (by decide) (by decide) (by decide)]
        have := dg_end (lqN A n0 i 21) (lqN A n0 i 23 0) _ (liB (lqN A n0 i)) (Nat.le_refl _)
        rw [lq_q A n0 (q := 21) (by decide) (by decide) (by decide) (by decide), lq_q A n0 (q := 23) (by decide) (by decide) (by decide) (by decide)] at this
        have e9 : dg (A 21) (A 23 0) (liB (lqN A n0 i)) = liE (lqN A n0 i) := by
          show _ = dg (lqN A n0 i 21) (lqN A n0 i 23 0) (liB (lqN A n0 i))
          rw [lq_q A n0 (q := 21) (by decide) (by decide) (by decide) (by decide), lq_q A n0 (q := 23) (by decide) (by decide) (by decide) (by decide)]
        rw [e9] at this
        exact this
      · rw [e8, e6]
        by_cases e : j = n0 + i
        · rw [if_pos e, hL, oI_s]
          exact ⟨hlk, rfl⟩
        · rw [if_neg e]
          obtain ⟨p, q⟩ := b3 j j0 (by omega)
          refine ⟨p, ?_⟩
          unfold oI
          split
          · rfl
          · exact q
      · rw [e8, e8]
        by_cases e : j = n0 + i
        · by_cases f : d = n0 + i
          · intro _; omega
          · rw [if_pos e, if_neg f, hL]
            intro q
            have b := (b3 d d0 (by omega)).2
            rw [← q] at b
            exact absurd ⟨rfl, b⟩ z9.2.2.1
        · by_cases f : d = n0 + i
          · rw [if_neg e, if_pos f, hL]
            intro q
            have b := (b3 j j0 (by omega)).2
            rw [q] at b
            exact absurd ⟨rfl, b⟩ z9.2.2.1
          · rw [if_neg e, if_neg f]
            exact b4 j d j0 (by omega) d0 (by omega)
theorem lqK_ok {A : Mt} {n0 : Int} (hY : TY A) (hV : 0 ≤ A 1 0 ∧ A 1 0 ≤ 30) (h0 : 0 ≤ n0) (h2 : 2 * n0 ≤ A 24 0) : ¬ go8 (lqN A n0 (lqK A n0)) ∧ ∀ k : Nat, k < lqK A n0 → go8 (lqN A n0 k) := by
  have hex : ∃ m : Nat, ¬ go8 (lqN A n0 m) := by
    refine Classical.byContradiction (fun q => ?_)
    have hall : ∀ m : Nat, go8 (lqN A n0 m) := fun m => Classical.byContradiction (fun z => q ⟨m, z⟩)
    obtain ⟨a1, a2, a3, a4⟩ := lq_o hY hV h0 h2 501 (fun k _ => (hall k).1)
    have := (a4 (hall 501).1).1
    have := a1.2.1
    omega
  obtain ⟨m, hm⟩ := hex
  obtain ⟨a, b⟩ := lea_ex (p := fun i => ¬ go8 (lqN A n0 i)) hm
  exact ⟨a, fun k hk => Classical.byContradiction (fun z => b k hk z)⟩
/-- what is read so far: n lines -/
def OE (M N : Mt) (n : Nat) : Prop := (∀ q : Nat, q ≠ 18 → q ≠ 19 → q ≠ 20 → q ≠ 24 → q ≠ 25 → q ≠ 26 → N q = M q) ∧ TX N ∧ N 20 0 = n ∧ (n : Int) ≤ 401 ∧ (∀ k : Int, 0 ≤ k → k < n → 0 ≤ N 19 k ∧ N 19 k ≤ N 19 (k + 1) ∧ N 19 (k + 1) ≤ 400) ∧ (0 ≤ N 19 n ∧ N 19 n ≤ 400) ∧ (N 25 0 = 0 → TY N ∧ M 24 0 + n ≤ N 24 0 ∧ 2 * N 19 n ≤ N 24 0 ∧ (∀ k : Int, 0 ≤ k → k < n → N 19 (k + 1) ≤ N 19 n ∧ (∀ i : Int, N 19 k ≤ i → i < N 19 (k + 1) → lok (M 1 0) (N 18 i)) ∧ ∀ i j : Int, N 19 k ≤ i → i < N 19 (k + 1) → N 19 k ≤ j → j < N 19 (k + 1) → iab (N 18 i) = iab (N 18 j) → i = j))
theorem cl_hr9 (M : Mt) {q : Nat} (h4 : q ≠ 24) (h6 : q ≠ 26) : clM (hrM M) q = M q := by
  unfold clM hrM
  rw [sM_n _ _ h6, oM_n _ _ _ h4]
theorem OE.step {M N : Mt} {n : Nat} (h : OE M N n) (hV : 0 ≤ M 1 0 ∧ M 1 0 ≤ 30) (hM4 : 0 ≤ M 24 0) (hf : N 25 0 = 0) : OE M (rlM N) (n + 1) ∧ (rlM N 25 0 = 0 → N 24 0 < rlM N 24 0) := by
  obtain ⟨a1, a2, a3, a4, a5, a6, a7⟩ := h
  obtain ⟨b1, b2, b3, b4⟩ := a7 hf
  have e1 : N 1 = M 1 := a1 1 (by decide) (by decide) (by decide) (by decide) (by decide) (by decide)
  have hYA : TY (clM (hrM N)) := b1.hr9.cl
  have eA1 : clM (hrM N) 1 = M 1 := (cl_hr9 N (by decide) (by decide)).trans e1
  have eA24 : clM (hrM N) 24 0 = nuB N := rfl
  have hnu : N 24 0 ≤ nuB N := (sk_rg _ _ _).1
  unfold rlM rlB
  rw [a3]
  obtain ⟨k1, k2⟩ := lqK_ok (A := clM (hrM N)) (n0 := N 19 n) hYA (by rw [eA1]; exact hV) a6.1 (by rw [eA24]; omega)
  obtain ⟨c1, c2, c3, c4⟩ := lq_o (A := clM (hrM N)) (n0 := N 19 n) hYA (by rw [eA1]; exact hV) a6.1 (by rw [eA24]; omega) (lqK (clM (hrM N)) (N 19 n)) (fun k hk => (k2 k hk).1)
  -- a bound of what is read, whatever comes of it
  have hcnt : N 19 n + lqK (clM (hrM N)) (N 19 n) ≤ 300 := by
    by_cases e : lqK (clM (hrM N)) (N 19 n) = 0
    · rw [e]
      have := b1.2.1
      show N 19 n + 0 ≤ 300
      omega
    · obtain ⟨m, hm⟩ : ∃ m : Nat, lqK (clM (hrM N)) (N 19 n) = m + 1 := ⟨lqK (clM (hrM N)) (N 19 n) - 1, by omega⟩
      obtain ⟨d1, d2, d3, d4⟩ := lq_o (A := clM (hrM N)) (n0 := N 19 n) hYA (by rw [eA1]; exact hV) a6.1 (by rw [eA24]; omega) m (fun k hk => (k2 k (by omega)).1)
      have := (d4 (k2 m (by omega)).1).1
      have := d1.2.1
      rw [hm]
      omega
  have hx : ∀ q : Nat, q ≠ 18 → q ≠ 24 → q ≠ 25 → q ≠ 26 → lqN (clM (hrM N)) (N 19 n) (lqK (clM (hrM N)) (N 19 n)) q = N q := fun q a b c d => (lq_q _ _ a b c d _).trans (cl_hr9 N b d)
  generalize hi : lqK (clM (hrM N)) (N 19 n) = i at k1 k2 c1 c2 c3 c4 hcnt hx ⊢
  generalize hB : lqN (clM (hrM N)) (N 19 n) i = B at k1 c1 c2 c3 c4 hx ⊢
  have hes := c1.es
  have e19 : esM B 19 = N 19 := (es_q B (by decide) (by decide)).trans (hx 19 (by decide) (by decide) (by decide) (by decide))
  have e18 : esM B 18 = B 18 := es_q B (by decide) (by decide)
  have f19 : ∀ k : Int, k ≠ (n : Int) + 1 → oM (oM (esM B) 20 0 ((n : Int) + 1)) 19 ((n : Int) + 1) (N 19 n + i) 19 k = N 19 k := fun k hk => by
    show oI (esM B 19) _ _ k = _
    rw [oI_n _ _ hk, e19]
  have g19 : oM (oM (esM B) 20 0 ((n : Int) + 1)) 19 ((n : Int) + 1) (N 19 n + i) 19 ((n : Int) + 1) = N 19 n + i := oI_s _ _ _
  have f18 : oM (oM (esM B) 20 0 ((n : Int) + 1)) 19 ((n : Int) + 1) (N 19 n + i) 18 = B 18 := e18
  have c23 : B 23 0 = N 23 0 := congrFun (hx 23 (by decide) (by decide) (by decide) (by decide)) 0
  have h400 := b1.1.2.2.1
  have hp4 := b1.2.2 hf
  have hprog : esM B 25 0 = 0 → N 24 0 < esM B 24 0 := fun z => by
    have := (hes.2.2.2 z).1
    omega
  refine ⟨⟨fun q q8 q9 q0 q4 q5 q6 => ?_, hes.1, rfl, by omega, fun k k0 k1 => ?_, ?_, fun z => ?_⟩, hprog⟩
  · rw [oM_n _ _ _ q9, oM_n _ _ _ q0, es_q B q4 q5, hx q q8 q4 q5 q6]
    exact a1 q q8 q9 q0 q4 q5 q6
  · rw [f19 k (by omega)]
    by_cases e : k = n
    · rw [e, g19]
      omega
    · rw [f19 (k + 1) (by omega)]
      exact a5 k k0 (by omega)
  · rw [show ((n + 1 : Nat) : Int) = (n : Int) + 1 by omega, g19]
    omega
  · have z' : esM B 25 0 = 0 := z
    obtain ⟨s1, s2, s3, s4⟩ := hes.2.2.2 z'
    obtain ⟨d1, d2, d3, d4⟩ := c4 s3
    have hpr := hprog z'
    have h24 : oM (oM (esM B) 20 0 ((n : Int) + 1)) 19 ((n : Int) + 1) (N 19 n + i) 24 0 = esM B 24 0 := rfl
    have h23 : oM (oM (esM B) 20 0 ((n : Int) + 1)) 19 ((n : Int) + 1) (N 19 n + i) 23 0 = N 23 0 := by
      show esM B 23 0 = _
      rw [es_q B (by decide) (by decide)]
      exact c23
    refine ⟨⟨hes.1, by rw [h24]; omega, fun _ => by rw [h24, h23]; omega⟩, by rw [h24]; omega, by rw [h24, show ((n + 1 : Nat) : Int) = (n : Int) + 1 by omega, g19]; omega, fun k k0 k1 => ?_⟩
    rw [f18, f19 k (by omega), show ((n + 1 : Nat) : Int) = (n : Int) + 1 by omega, g19]
    by_cases e : k = n
    · rw [e, g19]
      rw [eA1] at d3
      exact ⟨Int.le_refl _, fun j j0 j1 => (d3 j j0 j1).1, d4⟩
    · rw [f19 (k + 1) (by omega)]
      obtain ⟨p1, p2, p3⟩ := b4 k k0 (by omega)
      have hlo : ∀ j : Int, j < N 19 (k + 1) → B 18 j = N 18 j := fun j hj => by
        rw [c2 j (by omega)]
        exact congrFun (cl_hr9 N (q := 18) (by decide) (by decide)) j
      refine ⟨by omega, fun j j0 j1 => by rw [hlo j j1]; exact p2 j j0 j1, fun j d j0 j1 d0 d1 => ?_⟩
      rw [hlo j j1, hlo d d1]
      exact p3 j d j0 j1 d0 d1
theorem rs_o {M : Mt} (hX : TX M) : OE (rsM M) (rsM M) 0 := by
  have hY : TY (rsM M) := by
    obtain ⟨h1, h2, h3, h4, h5, h6⟩ := hX
    refine ⟨⟨h1, ?_, h2, ?_, ?_, h6⟩, ?_, fun _ => ?_⟩
    · show 0 ≤ (0 : Int) ∧ (0 : Int) ≤ 400
      omega
    · show 0 ≤ (0 : Int) ∧ (0 : Int) ≤ 1000
      omega
    · show 0 ≤ (0 : Int) ∧ (0 : Int) ≤ 100000
      omega
    · show (0 : Int) ≤ 500
      omega
    · show (0 : Int) ≤ M 22 0
      exact h2.1
  refine ⟨fun _ _ _ _ _ _ _ => rfl, hY.1, rfl, by omega, fun k k0 k1 => by omega, ?_, fun _ => ⟨hY, ?_, ?_, fun k k0 k1 => by omega⟩⟩
  · show 0 ≤ (0 : Int) ∧ (0 : Int) ≤ 400
    omega
  · show (0 : Int) + 0 ≤ 0
    omega
  · show 2 * (0 : Int) ≤ 0
    omega
theorem re_o {M : Mt} (hX : TX M) (hV : 0 ≤ M 1 0 ∧ M 1 0 ≤ 30) : ∀ n : Nat, (∀ k : Nat, k < n → gos (reN (rsM M) k)) → OE (rsM M) (reN (rsM M) n) n
  | 0, _ => rs_o hX
  | n + 1, h => ((re_o hX hV n (fun k hk => h k (by omega))).step hV (Int.le_refl _) (h n (by omega)).1).1
theorem clo_rq {M N : Mt} (hR : RI (M 1)) (hq : Rq (M 1) (N 1)) (h8 : N 18 = M 18) (h9 : N 19 = M 19) {L : Int} (hL : L ≤ M 1 6) (K : Int) (s : Int → Int) : clo N L K s ↔ clo M L K s := by
  have hln : ∀ k : Int, 0 ≤ k → N 1 (925 + k) = M 1 (925 + k) := fun k k0 => hq.2.2.2.2 _ (by omega)
  have hgc : ∀ c : Int, 0 ≤ c → (gcl s (lit (N 1) c) (siz (N 1) c) ↔ gcl s (lit (M 1) c) (siz (M 1) c)) := fun c c0 => by
    have e : opG s (lit (N 1) c) (siz (N 1) c) = opG s (lit (M 1) c) (siz (M 1) c) := hq.opn s c0
    unfold gcl
    rw [e]
  have hg : ∀ k : Int, rdG N k = rdG M k := fun k => by unfold rdG; rw [h8, h9]
  have hn : ∀ k : Int, rdN N k = rdN M k := fun k => by unfold rdN; rw [h9]
  unfold clo
  constructor
  · rintro ⟨a, b, c⟩
    refine ⟨fun d d0 d1 df => (hgc d d0).mp (a d d0 (by rw [hq.2.1]; exact d1) (by rw [hq.flg d0]; exact df)), fun k k0 k1 => ?_, fun k k0 k1 => by rw [← hg, ← hn]; exact c k k0 k1⟩
    obtain ⟨p, q⟩ := b k k0 k1
    rw [hln k k0] at p q
    have := hR.ln k0 (by omega)
    exact ⟨p, (hgc _ (by omega)).mp q⟩
  · rintro ⟨a, b, c⟩
    refine ⟨fun d d0 d1 df => (hgc d d0).mpr (a d d0 (by rw [hq.2.1] at d1; exact d1) (by rw [hq.flg d0] at df; exact df)), fun k k0 k1 => ?_, fun k k0 k1 => by rw [hg, hn]; exact c k k0 k1⟩
    obtain ⟨p, q⟩ := b k k0 k1
    rw [hln k k0]
    have := hR.ln k0 (by omega)
    exact ⟨p, (hgc _ (by omega)).mpr q⟩
theorem RfG_rq {M N : Mt} (hR : RI (M 1)) (hq : Rq (M 1) (N 1)) (h8 : N 18 = M 18) (h9 : N 19 = M 19) {L : Int} (hL : L ≤ M 1 6) (K : Int) (g : Int → Int) (n : Int) : RfG N L K g n ↔ RfG M L K g n := by
  unfold RfG
  constructor
  · exact fun h s hs ha hc => h s hs ha ((clo_rq hR hq h8 h9 hL K s).mpr hc)
  · exact fun h s hs ha hc => h s hs ha ((clo_rq hR hq h8 h9 hL K s).mp hc)
theorem Rq.o15 (R : Int → Int) (v : Int) : Rq R (oI R 15 v) := ⟨oI_n _ _ (by omega), oI_n _ _ (by omega), oI_n _ _ (by omega), fun i i0 i1 => oI_n _ _ (by omega), fun i i0 => oI_n _ _ (by omega)⟩
theorem RI.o15 {R : Int → Int} (h : RI R) (v : Int) : RI (oI R 15 v) := h.ext (fun i hi => oI_n _ _ (fun e => hi (by unfold RIx; omega)))
/-- how many lines are accepted; whether one of them is empty -/
noncomputable def rfV (N : Mt) (n : Int) : Int := if lst (fun k => ¬ RfG N 0 k (rdG N k) (rdN N k)) n = -1 then n else lst (fun k => ¬ RfG N 0 k (rdG N k) (rdN N k)) n
noncomputable def rfC (N : Mt) (k : Int) : Int := cif (∃ d : Int, 0 ≤ d ∧ d < k ∧ rdN N d = 0) 1 0
theorem rfC_s {N : Mt} {k : Int} (hk : 0 ≤ k) : rfC N (k + 1) = if rdN N k = 0 then 1 else rfC N k := by
  unfold rfC
  by_cases e : rdN N k = 0
  · rw [if_pos e, cif_t ⟨k, hk, by omega, e⟩]
  · rw [if_neg e]
    by_cases q : ∃ d : Int, 0 ≤ d ∧ d < k ∧ rdN N d = 0
    · obtain ⟨d, d0, d1, d2⟩ := q
      rw [cif_t ⟨d, d0, by omega, d2⟩, cif_t ⟨d, d0, d1, d2⟩]
    · rw [cif_f q, cif_f (fun ⟨d, d0, d1, d2⟩ => by
        by_cases z : d = k
        · rw [z] at d2; exact e d2
        · exact q ⟨d, d0, by omega, d2⟩)]
theorem pd_X3_refute : yX3_refute.cls = RX3 ∧ yX3_refute.cls ≠ "java/lang/invoke/MethodHandle" ∧ yX3_refute.cls ≠ "java/lang/invoke/VarHandle" ∧ (parseMethodDescriptor yX3_refute.desc).map (fun d => d.parameters.length) = some 0 := by decide +kernel
set_option maxHeartbeats 1000000 in
theorem ct_X3_refute (l : Launch) (G : Gt) (KS : Ks l G) (x : Nat) (M : Mt) (hR : RI (M 1)) (hTR : TR M) (hX : TX M) : TI l G yX3_refute cX3_refute 3 (some FieldType.int) 5 x [] M (fun v M' => (reN (rsM M) (reK (rsM M)) 25 0 ≠ 0 → v = -1 ∧ M' = reN (rsM M) (reK (rsM M))) ∧ (reN (rsM M) (reK (rsM M)) 25 0 = 0 → v = rfV (reN (rsM M) (reK (rsM M))) (reK (rsM M)) ∧ M' 1 = oI (M 1) 15 (rfC (reN (rsM M) (reK (rsM M))) v) ∧ (∀ q : Nat, q ≠ 1 → q ≠ 5 → q ≠ 6 → q ≠ 7 → q ≠ 8 → q ≠ 9 → q ≠ 10 → q ≠ 11 → q ≠ 24 → M' q = reN (rsM M) (reK (rsM M)) q) ∧ TR M')) := by
  intro h0 h hT
  refine ct_of KS (by decide) (Nat.le_of_ble_eq_true rfl) (fun X F E => ?_)
  refine j_lv (lv' := [(0, .ref x)]) ⟨rfl, trivial⟩ ?_
  have hV := hR.V
  have hmy := hR.many
  have hln := hR.lines
  have hrf := hR.ref
  refine j_aload_n F rfl dX3_refute_0 ?_
  refine j_iconst F dX3_refute_1 ?_
  refine t_put F hT 0 (by decide) rfl rfl rfl (by decide) q1486 dX3_refute_2 (fun h hT => ?_)
  refine j_aload_n F rfl dX3_refute_5 ?_
  refine t_callV F hT (ct_X3_startsText l G KS x _) (by decide) (by decide) (lw_V q1816 q1818 qs87 q110 q1819) pd_X3_startsText rfl (Nat.le_of_ble_eq_true rfl) (Nat.le_refl _) (Nat.le_refl _) dX3_refute_6 (fun M6 h hv6 hT => ?_)
  have e6 : M6 = tsM M := hv6
  subst e6
  refine j_aload_n F rfl dX3_refute_9 ?_
  refine j_iconst F dX3_refute_10 ?_
  refine t_put F hT 20 (by decide) rfl rfl rfl (by decide) q1506 dX3_refute_11 (fun h hT => ?_)
  refine j_aload_n F rfl dX3_refute_14 ?_
  refine t_get F hT 19 (by decide) rfl q1505 dX3_refute_15 ?_
  refine j_iconst F dX3_refute_18 ?_
  refine j_iconst F dX3_refute_19 ?_
  refine t_iast F hT 19 tm_19 rfl (by omega) dX3_refute_20 (fun h hT => ?_)
  have L21 : ∀ (m21 : Nat) (n : Nat) (N : Mt) (h : Hp), ((∀ k : Nat, k < n → gos (reN (rsM M) k)) ∧ N = (reN (rsM M) n)) → (if (reN (rsM M) n) 25 0 = 0 then (501 - (reN (rsM M) n) 24 0).toNat else 0) < m21 → Tw G x N h0 h → J X h 21 [(0, .ref x)] [] 0 0 := by
    intro m21
    induction m21 with
    | zero => intro n N h hI hm21 hT; exact absurd hm21 (Nat.not_lt_zero _)
    | succ m21 ih21 =>
      intro n N h hI hm21 hT
      obtain ⟨hI0, hI1⟩ := hI
      subst hI1
      have hOE := re_o hX hV n hI0
      obtain ⟨p1, p2, p3, p4, p5, p6, p7⟩ := hOE
      have hfn := p2.2.2.2.2.1
      have e1n : (reN (rsM M) n) 1 = M 1 := p1 1 (by decide) (by decide) (by decide) (by decide) (by decide) (by decide)
      refine j_aload_n F rfl dX3_refute_21 ?_
      refine t_get F hT 25 (by decide) rfl q1511 dX3_refute_22 ?_
      refine j_if_ne F 119 (by decide) (by omega) dX3_refute_25 (fun c25 => ?_) (fun c25 => ?_)
      · skip
        have hst : ¬ gos (reN (rsM M) n) := fun q => c25 q.1
        have hnn : reK (rsM M) = n := lea_at hst (fun k hk q => q (hI0 k hk))
        refine j_aload_n F rfl dX3_refute_119 ?_
        refine t_get F hT 25 (by decide) (v := vI ((reN (rsM M) n) 25 0)) rfl q1511 dX3_refute_120 ?_
        refine j_if_eq F 128 (by decide) (by omega) dX3_refute_123 (fun c123 => ?_) (fun c123 => ?_)
        · skip
          exact absurd c123 c25
        · skip
          refine j_iconst F dX3_refute_126 ?_
          exact j_iret F E (Nat.zero_le _) (Nat.zero_le _) dX3_refute_127 (ti_post hT ⟨fun _ => ⟨rfl, by rw [hnn]⟩, fun q => absurd (by rw [hnn] at q; exact q) c25⟩)
      · skip
        obtain ⟨y1, y2, y3, y4⟩ := p7 c25
        have y24 := y1.2.2 c25
        have h23 := p2.2.2.1
        have e240 : (rsM M) 24 0 = 0 := rfl
        refine j_aload_n F rfl dX3_refute_28 ?_
        refine t_callI F hT (ct_X3_here l G KS x _ p2) (by decide) (by decide) (lw_V q1820 q1822 qs88 q110 q1823) pd_X3_here rfl (Nat.le_of_ble_eq_true rfl) (Nat.le_refl _) (Nat.le_refl _) dX3_refute_29 (fun v29 M29 h hv29 hT => ?_)
        obtain ⟨e29, q29⟩ := hv29
        subst e29 q29
        have hg9 : -1 ≤ hr (reN (rsM M) n) ∧ hr (reN (rsM M) n) ≤ 255 := hrv_rg _ _ _
        refine j_iconst F dX3_refute_32 ?_
        refine j_icmp_eq F 119 (by decide) (by omega) (by omega) dX3_refute_33 (fun c33 => ?_) (fun c33 => ?_)
        · skip
          have hst : ¬ gos (reN (rsM M) n) := fun q => q.2 c33
          have hnn : reK (rsM M) = n := lea_at hst (fun k hk q => q (hI0 k hk))
          have hTn : TR (reN (rsM M) n) := by
            have e : ∀ q : Nat, 5 ≤ q → q ≤ 14 → (reN (rsM M) n) q = M q := fun q b c => (p1 q (by omega) (by omega) (by omega) (by omega) (by omega) (by omega)).trans (by show rsM M q = _; unfold rsM tsM; rw [oM_n _ _ _ (by omega), oM_n _ _ _ (by omega), oM_n _ _ _ (by omega), oM_n _ _ _ (by omega), oM_n _ _ _ (by omega), oM_n _ _ _ (by omega), oM_n _ _ _ (by omega)])
            unfold TR at hTR ⊢
            rw [e 5 (by omega) (by omega), e 6 (by omega) (by omega), e 7 (by omega) (by omega), e 8 (by omega) (by omega), e 9 (by omega) (by omega), e 10 (by omega) (by omega), e 11 (by omega) (by omega), e 12 (by omega) (by omega), e 13 (by omega) (by omega), e 14 (by omega) (by omega)]
            exact hTR
          refine j_aload_n F rfl dX3_refute_119 ?_
          refine t_get F hT 25 (by decide) (v := vI ((reN (rsM M) n) 25 0)) rfl q1511 dX3_refute_120 ?_
          refine j_if_eq F 128 (by decide) (by omega) dX3_refute_123 (fun c123 => ?_) (fun c123 => ?_)
          · skip
            refine j_aload_n F rfl dX3_refute_128 ?_
            refine t_get F hT 1 (by decide) rfl q1487 dX3_refute_129 ?_
            refine j_bipush F (by decide) dX3_refute_132 ?_
            refine j_iconst F dX3_refute_134 ?_
            refine t_iast F hT 1 tm_1 rfl (by omega) dX3_refute_135 (fun h hT => ?_)
            refine j_iconst F dX3_refute_136 ?_
            refine j_istore_n F (by decide) dX3_refute_137 ?_
            have L138 : ∀ (m138 : Nat) (k b : Int) (N9 : Mt) (h : Hp), (0 ≤ k ∧ k ≤ n ∧ (∀ d : Int, 0 ≤ d → d < k → RfG (reN (rsM M) n) 0 d (rdG (reN (rsM M) n) d) (rdN (reN (rsM M) n) d)) ∧ b = rfC (reN (rsM M) n) k ∧ N9 1 = oI (M 1) 15 b ∧ (∀ q : Nat, q ≠ 1 → q ≠ 5 → q ≠ 6 → q ≠ 7 → q ≠ 8 → q ≠ 9 → q ≠ 10 → q ≠ 11 → q ≠ 24 → N9 q = (reN (rsM M) n) q) ∧ TR N9) → (n - k).toNat < m138 → Tw G x N9 h0 h → J X h 138 [(0, .ref x), (1, vI k)] [] 0 0 := by
              intro m138
              induction m138 with
              | zero => intro k b N9 h hI hm138 hT; exact absurd hm138 (Nat.not_lt_zero _)
              | succ m138 ih138 =>
                intro k b N9 h hI hm138 hT
                obtain ⟨hK0, hK1, hK2, hK3, hK4, hK5, hK6⟩ := hI
                have e18 : N9 18 = (reN (rsM M) n) 18 := hK5 18 (by decide) (by decide) (by decide) (by decide) (by decide) (by decide) (by decide) (by decide) (by decide)
                have e19 : N9 19 = (reN (rsM M) n) 19 := hK5 19 (by decide) (by decide) (by decide) (by decide) (by decide) (by decide) (by decide) (by decide) (by decide)
                have hR9 : RI (N9 1) := by rw [hK4]; exact hR.o15 b
                have e10 : N9 1 0 = M 1 0 := by rw [hK4]; exact oI_n _ _ (by omega)
                have hTE := TR.emp hK6
                have hRE : RI (empM N9 1) := hR9
                have h0E : T0 (empM N9) := T0.emp (by rw [e10]; exact hV)
                have e20 : N9 20 0 = n := by rw [hK5 20 (by decide) (by decide) (by decide) (by decide) (by decide) (by decide) (by decide) (by decide) (by decide)]; exact p3
                refine j_iload_n F rfl dX3_refute_138 ?_
                refine j_aload_n F rfl dX3_refute_139 ?_
                refine t_get F hT 20 (by decide) (v := vI (n : Int)) (by show some (vI (N9 20 0)) = _; rw [e20]) q1506 dX3_refute_140 ?_
                refine j_icmp_ge F 239 (by decide) (by omega) (by omega) dX3_refute_143 (fun c143 => ?_) (fun c143 => ?_)
                · skip
                  refine j_aload_n F rfl dX3_refute_239 ?_
                  refine t_get F hT 20 (by decide) (v := vI (n : Int)) (by show some (vI (N9 20 0)) = _; rw [e20]) q1506 dX3_refute_240 ?_
                  exact j_iret F E (Nat.zero_le _) (Nat.zero_le _) dX3_refute_243 (ti_post hT (by
                    have hlk : lst (fun d => ¬ RfG (reN (rsM M) n) 0 d (rdG (reN (rsM M) n) d) (rdN (reN (rsM M) n) d)) n = -1 := lst_none (fun d d0 d1 q => q (hK2 d d0 (by omega)))
                    rw [hnn]
                    refine ⟨fun q => absurd c25 q, fun _ => ⟨?_, ?_, hK5, hK6⟩⟩
                    · unfold rfV; rw [hlk, if_pos rfl]
                    · rw [show (n : Int) = k by omega, ← hK3]; exact hK4))
                · skip
                  obtain ⟨l1, l2, l2'⟩ := p5 k hK0 (by omega)
                  obtain ⟨m1, m2, m3⟩ := y4 k hK0 (by omega)
                  have l3 : ∀ i : Int, 0 ≤ i → i < rdN (reN (rsM M) n) k → lok (M 1 0) (rdG (reN (rsM M) n) k i) := fun i i0 i1 => m2 _ (by omega) (by unfold rdN at i1; omega)
                  have l4 : ∀ i j : Int, 0 ≤ i → i < rdN (reN (rsM M) n) k → 0 ≤ j → j < rdN (reN (rsM M) n) k → iab (rdG (reN (rsM M) n) k i) = iab (rdG (reN (rsM M) n) k j) → i = j := fun i j i0 i1 j0 j1 q => by
                    unfold rdN at i1 j1
                    have := m3 _ _ (by omega) (by omega) (by omega) (by omega) q
                    omega
                  have hrN : 0 ≤ rdN (reN (rsM M) n) k := by unfold rdN; omega
                  refine j_aload_n F rfl dX3_refute_146 ?_
                  refine t_callV F hT (ct_X3_empties l G KS x _) (by decide) (by decide) (lw_V q1657 q1659 qs58 q110 q1660) pd_X3_empties rfl (Nat.le_of_ble_eq_true rfl) (Nat.le_refl _) (Nat.le_refl _) dX3_refute_147 (fun M147 h hv147 hT => ?_)
                  subst hv147
                  refine j_aload_n F rfl dX3_refute_150 ?_
                  refine t_get F hT 19 (by decide) rfl q1505 dX3_refute_151 ?_
                  refine j_iload_n F rfl dX3_refute_154 ?_
                  refine t_ialdw F hT 19 tm_19 ((reN (rsM M) n) 19 k) (congrFun e19 k) (by omega) dX3_refute_155 ?_
                  refine j_istore_n F (by decide) dX3_refute_156 ?_
                  have L157 : ∀ (m157 : Nat) (i : Nat) (p : Int) (N157 : Mt) (h : Hp), ((i : Int) ≤ rdN (reN (rsM M) n) k ∧ p = (reN (rsM M) n) 19 k + i ∧ N157 = (ngN (empM N9) (rdG (reN (rsM M) n) k) i)) → (rdN (reN (rsM M) n) k - i).toNat < m157 → Tw G x N157 h0 h → J X h 157 [(0, .ref x), (1, vI k), (2, vI p)] [] 0 0 := by
                    intro m157
                    induction m157 with
                    | zero => intro i p N157 h hI hm157 hT; exact absurd hm157 (Nat.not_lt_zero _)
                    | succ m157 ih157 =>
                      intro i p N157 h hI hm157 hT
                      obtain ⟨hJ0, hJp, hJ1⟩ := hI
                      subst hJp
                      subst hJ1
                      have hJ0' : (reN (rsM M) n) 19 k + (i : Int) ≤ (reN (rsM M) n) 19 (k + 1) := by
                        have := hJ0
                        unfold rdN at this
                        omega
                      obtain ⟨a1, a2, a3, a4, a5, a6, a7⟩ := ng_o hRE hTE h0E rfl (fun v v0 v1 => emp_0 (by omega) (by have v2 : v ≤ N9 1 0 := v1; rw [e10] at v2; omega)) (by show ∀ k9 : Int, 0 ≤ k9 → k9 < rdN (reN (rsM M) n) k → lok (N9 1 0) (rdG (reN (rsM M) n) k k9); rw [e10]; exact l3) l4 i hJ0
                      have q1n : (ngN (empM N9) (rdG (reN (rsM M) n) k) i) 1 = N9 1 := a4 1 (by decide) (by decide) (by decide) (by decide) (by decide) (by decide)
                      have q18 : (ngN (empM N9) (rdG (reN (rsM M) n) k) i) 18 = (reN (rsM M) n) 18 := (a4 18 (by decide) (by decide) (by decide) (by decide) (by decide) (by decide)).trans e18
                      have q19 : (ngN (empM N9) (rdG (reN (rsM M) n) k) i) 19 = (reN (rsM M) n) 19 := (a4 19 (by decide) (by decide) (by decide) (by decide) (by decide) (by decide)).trans e19
                      have hRn : RI ((ngN (empM N9) (rdG (reN (rsM M) n) k) i) 1) := by rw [q1n]; exact hR9
                      refine j_iload_n F rfl dX3_refute_157 ?_
                      refine j_aload_n F rfl dX3_refute_158 ?_
                      refine t_get F hT 19 (by decide) rfl q1505 dX3_refute_159 ?_
                      refine j_iload_n F rfl dX3_refute_162 ?_
                      refine j_iconst F dX3_refute_163 ?_
                      refine j_iadd F dX3_refute_164 ?_
                      refine t_ialdw F hT 19 tm_19 ((reN (rsM M) n) 19 (k + 1)) (congrFun q19 _) (by omega) dX3_refute_165 ?_
                      refine j_icmp_ge F 187 (by decide) (by omega) (by omega) dX3_refute_166 (fun c166 => ?_) (fun c166 => ?_)
                      · skip
                        have hin : rdN (reN (rsM M) n) k = (i : Int) := by unfold rdN at *; omega
                        have hok : Rfd (ngN (empM N9) (rdG (reN (rsM M) n) k) i) 0 k ((ngN (empM N9) (rdG (reN (rsM M) n) k) i) 5) ↔ RfG (reN (rsM M) n) 0 k (rdG (reN (rsM M) n) k) (rdN (reN (rsM M) n) k) := by
                          rw [hin]
                          have z1 := Rfd_G (M := N9) (N := empM N9) (g := rdG (reN (rsM M) n) k) (n := i) (L := 0) (K := k) (by rw [e10]; exact hV) rfl a2 a4 rfl rfl (by rw [e10, ← hin]; exact l3) a5 a6
                          have hRr : RI ((reN (rsM M) n) 1) := by rw [e1n]; exact hR
                          have z2 := RfG_rq (M := (reN (rsM M) n)) (N := N9) hRr (by rw [hK4, e1n]; exact Rq.o15 _ _) e18 e19 (L := 0) (by rw [e1n]; omega) k (rdG (reN (rsM M) n) k) i
                          exact z1.trans z2
                        refine j_aload_n F rfl dX3_refute_187 ?_
                        refine j_iconst F dX3_refute_188 ?_
                        refine j_iload_n F rfl dX3_refute_189 ?_
                        refine t_callI F hT (ct_X3_isRefused l G KS x _ (L := 0) (K := k) hRn a2 a1 (by rw [q1n, hK4, oI_n _ _ (by omega)]; omega) (by omega) (fun d d0 d1 => by
                          rw [q19, q18, q1n, e10]
                          exact ⟨p5 d d0 (by omega), (y4 d d0 (by omega)).2.1⟩)) (by decide) (by decide) (lw_V q1800 q1802 qs84 q110 q1803) pd_X3_isRefused rfl (Nat.le_of_ble_eq_true rfl) (Nat.le_refl _) (Nat.le_refl _) dX3_refute_190 (fun v190 M190 h hv190 hT => ?_)
                        have hM1 : M190 1 = oI (M 1) 15 b := by rw [hv190.2.2.1 1 (by decide) (by decide) (by decide) (by decide) (by decide) (by decide), q1n]; exact hK4
                        have hMq : ∀ q : Nat, q ≠ 1 → q ≠ 5 → q ≠ 6 → q ≠ 7 → q ≠ 8 → q ≠ 9 → q ≠ 10 → q ≠ 11 → q ≠ 24 → M190 q = (reN (rsM M) n) q := fun q b1 b5 b6 b7 b8 b9 b10 b11 b24 => by rw [hv190.2.2.1 q b5 b6 b7 b8 b9 b10, a4 q b5 b6 b7 b8 b9 b10, emp_q b5 b10 b11]; exact hK5 q b1 b5 b6 b7 b8 b9 b10 b11 b24
                        have hvb := hv190.1
                        have g19 : M190 19 = (reN (rsM M) n) 19 := hMq 19 (by decide) (by decide) (by decide) (by decide) (by decide) (by decide) (by decide) (by decide) (by decide)
                        refine j_if_ne F 198 (by decide) (by omega) dX3_refute_193 (fun c193 => ?_) (fun c193 => ?_)
                        · skip
                          refine j_aload_n F rfl dX3_refute_198 ?_
                          refine t_get F hT 1 (by decide) rfl q1487 dX3_refute_199 ?_
                          refine j_bipush F (by decide) dX3_refute_202 ?_
                          refine j_joinT (x := x) (M := M190) (G := G) (h0 := h0) 232 (fun w => w = rfC (reN (rsM M) n) (k + 1)) (fun w h hw hT => ?_) (fun Kj204 => ?_)
                          · skip
                            refine t_iast F hT 1 tm_1 rfl (by omega) dX3_refute_232 (fun h hT => ?_)
                            refine j_iinc F rfl (by decide) dX3_refute_233 ?_
                            refine j_goto F 138 (by decide) dX3_refute_236 ?_
                            refine j_lv (lv' := [(0, .ref x), (1, vI (k + 1))]) ⟨rfl, rfl, trivial⟩ ?_
                            exact ih138 (k + 1) w _ _ ⟨by omega, by omega, fun d d0 d1 => by
                              by_cases e : d = k
                              · rw [e]; exact hok.mp ((hv190.2.1).mp (by omega))
                              · exact hK2 d d0 (by omega), hw, by rw [oM_s, hM1]; funext j; unfold oI; split <;> rfl, fun q a b5 b6 b7 b8 b9 b10 b11 b24 => (oM_n _ _ _ a).trans (hMq q a b5 b6 b7 b8 b9 b10 b11 b24), hv190.2.2.2⟩ (by omega) hT
                          · skip
                            refine j_aload_n F rfl dX3_refute_204 ?_
                            refine t_get F hT 19 (by decide) rfl q1505 dX3_refute_205 ?_
                            refine j_iload_n F rfl dX3_refute_208 ?_
                            refine j_iconst F dX3_refute_209 ?_
                            refine j_iadd F dX3_refute_210 ?_
                            refine t_ialdw F hT 19 tm_19 ((reN (rsM M) n) 19 (k + 1)) (congrFun g19 _) (by omega) dX3_refute_211 ?_
                            refine j_aload_n F rfl dX3_refute_212 ?_
                            refine t_get F hT 19 (by decide) rfl q1505 dX3_refute_213 ?_
                            refine j_iload_n F rfl dX3_refute_216 ?_
                            refine t_ialdw F hT 19 tm_19 ((reN (rsM M) n) 19 k) (congrFun g19 _) (by omega) dX3_refute_217 ?_
                            refine j_icmp_ne F 225 (by decide) (by omega) (by omega) dX3_refute_218 (fun c218 => ?_) (fun c218 => ?_)
                            · skip
                              refine j_aload_n F rfl dX3_refute_225 ?_
                              refine t_get F hT 1 (by decide) rfl q1487 dX3_refute_226 ?_
                              refine j_bipush F (by decide) dX3_refute_229 ?_
                              refine t_ialdw F hT 1 tm_1 b (by rw [hM1, oI_s]) (by omega) dX3_refute_231 ?_
                              exact Kj204 _ _ (by rw [rfC_s hK0]; unfold rdN; first | (rw [if_pos (by omega)]) | (rw [if_neg (by omega)]; exact hK3)) hT
                            · skip
                              refine j_iconst F dX3_refute_221 ?_
                              refine j_goto F 232 (by decide) dX3_refute_222 ?_
                              exact Kj204 _ _ (by rw [rfC_s hK0]; unfold rdN; first | (rw [if_pos (by omega)]) | (rw [if_neg (by omega)]; exact hK3)) hT
                        · skip
                          refine j_iload_n F rfl dX3_refute_196 ?_
                          exact j_iret F E (Nat.zero_le _) (Nat.zero_le _) dX3_refute_197 (ti_post hT (by
                            have hlk : lst (fun d => ¬ RfG (reN (rsM M) n) 0 d (rdG (reN (rsM M) n) d) (rdN (reN (rsM M) n) d)) n = k := lst_at hK0 (by omega) (fun q => by have := hv190.2.1.mpr (hok.mpr q); omega) (fun d d0 d1 q => q (hK2 d d0 d1))
                            rw [hnn]
                            refine ⟨fun q => absurd c25 q, fun _ => ⟨?_, ?_, hMq, hv190.2.2.2⟩⟩
                            · unfold rfV; rw [hlk, if_neg (by omega)]
                            · rw [← hK3]; exact hM1))
                      · skip
                        have hir : (i : Int) < rdN (reN (rsM M) n) k := by unfold rdN; omega
                        have l3' := l3 i (by omega) hir
                        have l3'' := lok_mono l3' hV.2
                        refine j_aload_n F rfl dX3_refute_169 ?_
                        refine j_aload_n F rfl dX3_refute_170 ?_
                        refine t_get F hT 18 (by decide) rfl q1504 dX3_refute_171 ?_
                        refine j_iload_n F rfl dX3_refute_174 ?_
                        refine t_ialdw F hT 18 tm_18 (rdG (reN (rsM M) n) k i) (congrFun q18 _) (by omega) dX3_refute_175 ?_
                        refine j_ineg F dX3_refute_176 ?_
                        refine j_iconst F dX3_refute_177 ?_
                        refine t_callV F hT (ct_X3_comes l G KS x _ (a := -(rdG (reN (rsM M) n) k i)) (w := -1) (lok_neg l3'') ⟨by omega, a7 (by omega)⟩) (by decide) (by decide) (lw_V q1717 q1719 qs73 q110 q1720) pd_X3_comes rfl (Nat.le_of_ble_eq_true rfl) (Nat.le_refl _) (Nat.le_refl _) dX3_refute_178 (fun M178 h hv178 hT => ?_)
                        refine j_iinc F rfl (by decide) dX3_refute_181 ?_
                        refine j_goto F 157 (by decide) dX3_refute_184 ?_
                        refine j_lv (lv' := [(0, .ref x), (1, vI k), (2, vI ((reN (rsM M) n) 19 k + i + 1))]) ⟨rfl, rfl, rfl, trivial⟩ ?_
                        exact ih157 (i + 1) ((reN (rsM M) n) 19 k + i + 1) _ _ ⟨by omega, by omega, hv178⟩ (by omega) hT
                  refine j_lv (lv' := [(0, .ref x), (1, vI k), (2, vI ((reN (rsM M) n) 19 k))]) ⟨rfl, rfl, rfl, trivial⟩ ?_
                  exact L157 _ 0 ((reN (rsM M) n) 19 k) _ _ ⟨by omega, (Int.add_zero _).symm, rfl⟩ (Nat.lt_succ_self _) hT
            refine j_lv (lv' := [(0, .ref x), (1, vI 0)]) ⟨rfl, rfl, trivial⟩ ?_
            exact L138 _ 0 0 _ _ ⟨by omega, by omega, fun d d0 d1 => by omega, (cif_f (fun ⟨d, d0, d1, d2⟩ => by omega)).symm, by show oI ((reN (rsM M) n) 1) 15 0 = _; rw [e1n], fun q a _ _ _ _ _ _ _ d => (oM_n _ _ _ a).trans (oM_n _ _ _ d), (show TR (reN (rsM M) n) from hTn)⟩ (Nat.lt_succ_self _) hT
          · skip
            exact absurd c25 c123
        · skip
          refine j_aload_n F rfl dX3_refute_36 ?_
          refine t_get F hT 19 (by decide) rfl q1505 dX3_refute_37 ?_
          refine j_aload_n F rfl dX3_refute_40 ?_
          refine t_get F hT 20 (by decide) (v := vI (n : Int)) (by show some (vI ((reN (rsM M) n) 20 0)) = _; rw [p3]) q1506 dX3_refute_41 ?_
          refine t_ialdw F hT 19 tm_19 (reN (rsM M) n 19 n) rfl (by omega) dX3_refute_44 ?_
          refine j_istore_n F (by decide) dX3_refute_45 ?_
          refine j_aload_n F rfl dX3_refute_46 ?_
          refine t_callV F hT (ct_X3_clearsTold l G KS x _) (by decide) (by decide) (lw_V q1824 q1826 qs89 q110 q1827) pd_X3_clearsTold rfl (Nat.le_of_ble_eq_true rfl) (Nat.le_refl _) (Nat.le_refl _) dX3_refute_47 (fun M47 h hv47 hT => ?_)
          subst hv47
          have hYA : TY (clM (hrM (reN (rsM M) n))) := y1.hr9.cl
          have hVA : 0 ≤ (clM (hrM (reN (rsM M) n))) 1 0 ∧ (clM (hrM (reN (rsM M) n))) 1 0 ≤ 30 := by rw [cl_hr9 _ (by decide) (by decide), e1n]; exact hV
          have h2A : 2 * (reN (rsM M) n 19 n) ≤ (clM (hrM (reN (rsM M) n))) 24 0 := by
            have q : (reN (rsM M) n) 24 0 ≤ nuB (reN (rsM M) n) := (sk_rg _ _ _).1
            show 2 * (reN (rsM M) n 19 n) ≤ nuB (reN (rsM M) n)
            omega
          have L50 : ∀ (m50 : Nat) (i : Nat) (p : Int) (N50 : Mt) (h : Hp), ((∀ k : Nat, k < i → go8 (lqN (clM (hrM (reN (rsM M) n))) (reN (rsM M) n 19 n) k)) ∧ p = (reN (rsM M) n 19 n) + i ∧ N50 = (lqN (clM (hrM (reN (rsM M) n))) (reN (rsM M) n 19 n) i)) → (if (lqN (clM (hrM (reN (rsM M) n))) (reN (rsM M) n 19 n) i) 25 0 = 0 then (501 - (lqN (clM (hrM (reN (rsM M) n))) (reN (rsM M) n 19 n) i) 24 0).toNat else 0) < m50 → Tw G x N50 h0 h → J X h 50 [(0, .ref x), (1, vI p)] [] 0 0 := by
            intro m50
            induction m50 with
            | zero => intro i p N50 h hI hm50 hT; exact absurd hm50 (Nat.not_lt_zero _)
            | succ m50 ih50 =>
              intro i p N50 h hI hm50 hT
              obtain ⟨hJ0, hJp, hJ1⟩ := hI
              subst hJp
              subst hJ1
              obtain ⟨o1, o2, o3, o4⟩ := lq_o hYA hVA p6.1 h2A i (fun k hk => (hJ0 k hk).1)
              have hfi := o1.1.2.2.2.2.1
              have hVi : 0 ≤ (lqN (clM (hrM (reN (rsM M) n))) (reN (rsM M) n 19 n) i) 1 0 ∧ (lqN (clM (hrM (reN (rsM M) n))) (reN (rsM M) n 19 n) i) 1 0 ≤ 30 := by rw [lq_q _ _ (by decide) (by decide) (by decide) (by decide) i]; exact hVA
              refine j_aload_n F rfl dX3_refute_50 ?_
              refine t_get F hT 25 (by decide) rfl q1511 dX3_refute_51 ?_
              refine j_if_ne F 86 (by decide) (by omega) dX3_refute_54 (fun c54 => ?_) (fun c54 => ?_)
              · skip
                have hst : ¬ go8 (lqN (clM (hrM (reN (rsM M) n))) (reN (rsM M) n 19 n) i) := fun q => c54 q.1
                have hik : lqK (clM (hrM (reN (rsM M) n))) (reN (rsM M) n 19 n) = i := lea_at hst (fun k hk q => q (hJ0 k hk))
                refine j_aload_n F rfl dX3_refute_86 ?_
                refine j_dup F rfl dX3_refute_87 ?_
                refine t_get F hT 24 (by decide) (v := vI ((lqN (clM (hrM (reN (rsM M) n))) (reN (rsM M) n 19 n) i) 24 0)) rfl q1510 dX3_refute_88 ?_
                refine j_iconst F dX3_refute_91 ?_
                refine j_iadd F dX3_refute_92 ?_
                refine t_put F hT 24 (by decide) rfl rfl rfl (by decide) q1510 dX3_refute_93 (fun h hT => ?_)
                refine j_aload_n F rfl dX3_refute_96 ?_
                refine j_dup F rfl dX3_refute_97 ?_
                have hC : oM (lqN (clM (hrM (reN (rsM M) n))) (reN (rsM M) n 19 n) i) 24 0 ((lqN (clM (hrM (reN (rsM M) n))) (reN (rsM M) n 19 n) i) 24 0 + 1) = esM (lqN (clM (hrM (reN (rsM M) n))) (reN (rsM M) n 19 n) i) := by unfold esM; rw [if_neg c54]
                refine t_get F hT 20 (by decide) (v := vI (n : Int)) (by show some (vI ((lqN (clM (hrM (reN (rsM M) n))) (reN (rsM M) n 19 n) i) 20 0)) = _; rw [lq_q _ _ (by decide) (by decide) (by decide) (by decide) i, cl_hr9 _ (by decide) (by decide), p3]) q1506 dX3_refute_98 ?_
                refine j_iconst F dX3_refute_101 ?_
                refine j_iadd F dX3_refute_102 ?_
                refine t_put F hT 20 (by decide) rfl rfl rfl (by decide) q1506 dX3_refute_103 (fun h hT => ?_)
                refine j_aload_n F rfl dX3_refute_106 ?_
                refine t_get F hT 19 (by decide) rfl q1505 dX3_refute_107 ?_
                refine j_aload_n F rfl dX3_refute_110 ?_
                refine t_get F hT 20 (by decide) (v := vI ((n : Int) + 1)) rfl q1506 dX3_refute_111 ?_
                refine j_iload_n F rfl dX3_refute_114 ?_
                refine t_iast F hT 19 tm_19 rfl (by omega) dX3_refute_115 (fun h hT => ?_)
                have he115 : oM (oM (oM (lqN (clM (hrM (reN (rsM M) n))) (reN (rsM M) n 19 n) i) 24 0 ((lqN (clM (hrM (reN (rsM M) n))) (reN (rsM M) n 19 n) i) 24 0 + 1)) 20 0 ((n : Int) + 1)) 19 ((n : Int) + 1) ((reN (rsM M) n 19 n) + i) = reN (rsM M) (n + 1) := by
                  rw [hC]
                  show _ = rlM (reN (rsM M) n)
                  unfold rlM rlB
                  rw [p3, hik]
                refine j_goto F 21 (by decide) dX3_refute_116 ?_
                refine j_lv (lv' := [(0, .ref x)]) ⟨rfl, trivial⟩ ?_
                exact ih21 (n + 1) _ _ ⟨fun k hk => by
                  by_cases e : k = n
                  · rw [e]; exact ⟨c25, c33⟩
                  · exact hI0 k (by omega), he115⟩ (by
                  rw [if_pos c25] at hm21
                  have hst := (OE.step (re_o hX hV n hI0) hV (Int.le_refl _) c25).2
                  have h5 := (p7 c25).1.2.1
                  show (if rlM (reN (rsM M) n) 25 0 = 0 then (501 - rlM (reN (rsM M) n) 24 0).toNat else 0) < m21
                  split
                  · rename_i z
                    have := hst z
                    omega
                  · omega) hT
              · skip
                refine j_aload_n F rfl dX3_refute_57 ?_
                refine t_callI F hT (ct_X3_here l G KS x _ o1.1) (by decide) (by decide) (lw_V q1820 q1822 qs88 q110 q1823) pd_X3_here rfl (Nat.le_of_ble_eq_true rfl) (Nat.le_refl _) (Nat.le_refl _) dX3_refute_58 (fun v58 M58 h hv58 hT => ?_)
                obtain ⟨e58, q58⟩ := hv58
                subst e58 q58
                have hg8 : -1 ≤ hr (lqN (clM (hrM (reN (rsM M) n))) (reN (rsM M) n 19 n) i) ∧ hr (lqN (clM (hrM (reN (rsM M) n))) (reN (rsM M) n 19 n) i) ≤ 255 := hrv_rg _ _ _
                refine j_bipush F (by decide) dX3_refute_61 ?_
                refine j_icmp_eq F 86 (by decide) (by omega) (by omega) dX3_refute_63 (fun c63 => ?_) (fun c63 => ?_)
                · skip
                  have hst : ¬ go8 (lqN (clM (hrM (reN (rsM M) n))) (reN (rsM M) n 19 n) i) := fun q => q.2 c63
                  have hik : lqK (clM (hrM (reN (rsM M) n))) (reN (rsM M) n 19 n) = i := lea_at hst (fun k hk q => q (hJ0 k hk))
                  refine j_aload_n F rfl dX3_refute_86 ?_
                  refine j_dup F rfl dX3_refute_87 ?_
                  refine t_get F hT 24 (by decide) (v := vI (nuB (lqN (clM (hrM (reN (rsM M) n))) (reN (rsM M) n 19 n) i))) rfl q1510 dX3_refute_88 ?_
                  refine j_iconst F dX3_refute_91 ?_
                  refine j_iadd F dX3_refute_92 ?_
                  refine t_put F hT 24 (by decide) rfl rfl rfl (by decide) q1510 dX3_refute_93 (fun h hT => ?_)
                  refine j_aload_n F rfl dX3_refute_96 ?_
                  refine j_dup F rfl dX3_refute_97 ?_
                  have hC : oM (hrM (lqN (clM (hrM (reN (rsM M) n))) (reN (rsM M) n 19 n) i)) 24 0 (nuB (lqN (clM (hrM (reN (rsM M) n))) (reN (rsM M) n 19 n) i) + 1) = esM (lqN (clM (hrM (reN (rsM M) n))) (reN (rsM M) n 19 n) i) := by
                    unfold esM; rw [if_pos c54, if_pos c63]; unfold hrM; rw [oM_oM]
                  refine t_get F hT 20 (by decide) (v := vI (n : Int)) (by show some (vI ((lqN (clM (hrM (reN (rsM M) n))) (reN (rsM M) n 19 n) i) 20 0)) = _; rw [lq_q _ _ (by decide) (by decide) (by decide) (by decide) i, cl_hr9 _ (by decide) (by decide), p3]) q1506 dX3_refute_98 ?_
                  refine j_iconst F dX3_refute_101 ?_
                  refine j_iadd F dX3_refute_102 ?_
                  refine t_put F hT 20 (by decide) rfl rfl rfl (by decide) q1506 dX3_refute_103 (fun h hT => ?_)
                  refine j_aload_n F rfl dX3_refute_106 ?_
                  refine t_get F hT 19 (by decide) rfl q1505 dX3_refute_107 ?_
                  refine j_aload_n F rfl dX3_refute_110 ?_
                  refine t_get F hT 20 (by decide) (v := vI ((n : Int) + 1)) rfl q1506 dX3_refute_111 ?_
                  refine j_iload_n F rfl dX3_refute_114 ?_
                  refine t_iast F hT 19 tm_19 rfl (by omega) dX3_refute_115 (fun h hT => ?_)
                  have he115 : oM (oM (oM (hrM (lqN (clM (hrM (reN (rsM M) n))) (reN (rsM M) n 19 n) i)) 24 0 (nuB (lqN (clM (hrM (reN (rsM M) n))) (reN (rsM M) n 19 n) i) + 1)) 20 0 ((n : Int) + 1)) 19 ((n : Int) + 1) ((reN (rsM M) n 19 n) + i) = reN (rsM M) (n + 1) := by
                    rw [hC]
                    show _ = rlM (reN (rsM M) n)
                    unfold rlM rlB
                    rw [p3, hik]
                  refine j_goto F 21 (by decide) dX3_refute_116 ?_
                  refine j_lv (lv' := [(0, .ref x)]) ⟨rfl, trivial⟩ ?_
                  exact ih21 (n + 1) _ _ ⟨fun k hk => by
                    by_cases e : k = n
                    · rw [e]; exact ⟨c25, c33⟩
                    · exact hI0 k (by omega), he115⟩ (by
                    rw [if_pos c25] at hm21
                    have hst := (OE.step (re_o hX hV n hI0) hV (Int.le_refl _) c25).2
                    have h5 := (p7 c25).1.2.1
                    show (if rlM (reN (rsM M) n) 25 0 = 0 then (501 - rlM (reN (rsM M) n) 24 0).toNat else 0) < m21
                    split
                    · rename_i z
                      have := hst z
                      omega
                    · omega) hT
                · skip
                  obtain ⟨t1, t2, t3, t4⟩ := o4 c54
                  have h5i := o1.2.1
                  refine j_aload_n F rfl dX3_refute_66 ?_
                  refine j_iconst F dX3_refute_67 ?_
                  refine j_iconst F dX3_refute_68 ?_
                  refine t_callI F hT (ct_X3_litE l G KS x _ (u := 1) (fu := 0) (Or.inr rfl) (Or.inl rfl) hVi o1.1.hr o1.hr9.2.1 c54) (by decide) (by decide) (lw_V q1828 q1830 qs90 q110 q1831) pd_X3_lit rfl (Nat.le_of_ble_eq_true rfl) (Nat.le_refl _) (Nat.le_refl _) dX3_refute_69 (fun v69 M69 h hv69 hT => ?_)
                  obtain ⟨e69, q69⟩ := hv69
                  rw [liF_hr, liL_hr] at e69
                  rw [liM_hr] at q69
                  subst q69
                  refine j_istore_n F (by decide) dX3_refute_72 ?_
                  refine j_aload_n F rfl dX3_refute_73 ?_
                  refine t_get F hT 18 (by decide) rfl q1504 dX3_refute_74 ?_
                  refine j_iload_n F rfl dX3_refute_77 ?_
                  refine j_iload_n F rfl dX3_refute_78 ?_
                  refine t_iast F hT 18 tm_18 rfl (by omega) dX3_refute_79 (fun h hT => ?_)
                  refine j_iinc F rfl (by decide) dX3_refute_80 ?_
                  refine j_goto F 50 (by decide) dX3_refute_83 ?_
                  refine j_lv (lv' := [(0, .ref x), (1, vI ((reN (rsM M) n 19 n) + i + 1))]) ⟨rfl, rfl, trivial⟩ ?_
                  exact ih50 (i + 1) ((reN (rsM M) n 19 n) + i + 1) _ _ ⟨fun k hk => by
                    by_cases e : k = i
                    · rw [e]; exact ⟨c54, c63⟩
                    · exact hJ0 k (by omega), by omega, by show _ = stq ((reN (rsM M) n 19 n) + i) (lqN (clM (hrM (reN (rsM M) n))) (reN (rsM M) n 19 n) i); unfold stq; rw [← e69]⟩ (by
                    rw [if_pos c54] at hm50
                    have hr9 := o1.1.li o1.2.1 1 0
                    have h5 := o1.2.1
                    show (if stq ((reN (rsM M) n 19 n) + i) (lqN (clM (hrM (reN (rsM M) n))) (reN (rsM M) n 19 n) i) 25 0 = 0 then (501 - stq ((reN (rsM M) n 19 n) + i) (lqN (clM (hrM (reN (rsM M) n))) (reN (rsM M) n 19 n) i) 24 0).toNat else 0) < m50
                    rw [stq_24, stq_25 _ c54]
                    split
                    · rename_i z
                      have := liF_0 z
                      omega
                    · omega) hT
          refine j_lv (lv' := [(0, .ref x), (1, vI (reN (rsM M) n 19 n))]) ⟨rfl, rfl, trivial⟩ ?_
          exact L50 _ 0 (reN (rsM M) n 19 n) _ _ ⟨fun k hk => absurd hk (Nat.not_lt_zero _), (Int.add_zero _).symm, rfl⟩ (Nat.lt_succ_self _) hT
  refine j_lv (lv' := [(0, .ref x)]) ⟨rfl, trivial⟩ ?_
  exact L21 _ 0 _ _ ⟨fun k hk => absurd hk (Nat.not_lt_zero _), rfl⟩ (Nat.lt_succ_self _) hT
