theorem lea_ex {p : Nat → Prop} {m : Nat} (h : p m) : p (lea p) ∧ ∀ k : Nat, k < lea p → ¬ p k := by
  have key : ∀ m : Nat, p m → ∃ n : Nat, p n ∧ ∀ k : Nat, k < n → ¬ p k := by
    intro m
    induction m using Nat.strongRecOn with
    | ind m ih =>
      intro hm
      by_cases q : ∃ k : Nat, k < m ∧ p k
      · obtain ⟨k, k0, k1⟩ := q
        exact ih k k0 k1
      · exact ⟨m, hm, fun k hk hp => q ⟨k, hk, hp⟩⟩
  obtain ⟨n, n0, n1⟩ := key m h
  rw [lea_at n0 n1]
  exact ⟨n0, n1⟩
theorem rn_ok {fu : Nat → Int} {M : Mt} (h8 : fu 8 = 1) : (∀ k : Nat, k < rnN fu M → go9 (rlN fu M k)) ∧ ¬ go9 (rlN fu M (rnN fu M)) := by
  have hex : ∃ m : Nat, ¬ go9 (rlN fu M m) := by
    refine Classical.byContradiction (fun q => ?_)
    have hall : ∀ m : Nat, go9 (rlN fu M m) := fun m => Classical.byContradiction (fun z => q ⟨m, z⟩)
    have := rd_8 (fu := fu) (M := M) h8 (n := 9) (fun k _ => (hall k).1) (hall 9).1
    omega
  obtain ⟨m, hm⟩ := hex
  obtain ⟨a, b⟩ := lea_ex (p := fun n => ¬ go9 (rlN fu M n)) hm
  exact ⟨fun k hk => Classical.byContradiction (fun z => b k hk z), a⟩
theorem rl_24 {fu : Nat → Int} {M : Mt} (hY : TY M) (hV : 0 ≤ M 1 0 ∧ M 1 0 ≤ 30) : ∀ n : Nat, (∀ k : Nat, k < n → rlN fu M k 25 0 = 0) → M 24 0 ≤ rlN fu M n 24 0
  | 0, _ => Int.le_refl _
  | n + 1, h => by
    have ih := rl_24 hY hV n (fun k hk => h k (by omega))
    have hYn := hY.rd (fu := fu) hV n (fun k hk => h k (by omega))
    have := hYn.1.li hYn.2.1 1 (fu n)
    rw [rlN, stp_24]
    omega
/-- what a statement keeps: the row's law, the text's ranges; place and text -/
def StO (M N : Mt) : Prop := RI (N 1) ∧ TX N ∧ N 21 = M 21 ∧ N 22 = M 22 ∧ N 23 = M 23 ∧ (∀ q : Nat, q ≠ 1 → q ≠ 24 → q ≠ 25 → q ≠ 26 → q ≠ 27 → N q = M q) ∧ (N 25 0 = 0 → M 24 0 < N 24 0 ∧ N 24 0 ≤ N 23 0)
theorem es_o {M N : Mt} (hR : RI (N 1)) (hY : TY N) (hp : M 24 0 ≤ N 24 0) (hq : ∀ q : Nat, q ≠ 1 → q ≠ 24 → q ≠ 25 → q ≠ 26 → q ≠ 27 → N q = M q) : StO M (esM N) := by
  have hes := hY.es
  have hq' : ∀ q : Nat, q ≠ 1 → q ≠ 24 → q ≠ 25 → q ≠ 26 → q ≠ 27 → esM N q = M q := fun q a b c d e => (es_q N b c).trans (hq q a b c d e)
  refine ⟨by rw [es_q N (by decide) (by decide)]; exact hR, hes.1, hq' 21 (by decide) (by decide) (by decide) (by decide) (by decide), hq' 22 (by decide) (by decide) (by decide) (by decide) (by decide), hq' 23 (by decide) (by decide) (by decide) (by decide) (by decide), hq', fun z => ?_⟩
  obtain ⟨a, b, -⟩ := hes.2.2.2 z
  exact ⟨by omega, by rw [es_q N (q := 23) (by decide) (by decide)]; exact b⟩
theorem StO.row {M N : Mt} (h : StO M N) {R' : Int → Int} (hR : RI R') : StO M (sM N 1 R') := by
  obtain ⟨h1, h2, h3, h4, h5, h6, h7⟩ := h
  exact ⟨hR, h2, h3, h4, h5, fun q a b c d e => (sM_n _ _ a).trans (h6 q a b c d e), h7⟩
theorem rl_o {fu : Nat → Int} {M : Mt} (h8 : fu 8 = 1) (hR : RI (M 1)) (hY : TY M) : StO M (esM (rlN fu (clM M) (rnN fu (clM M)))) ∧ rlN fu (clM M) (rnN fu (clM M)) 1 = M 1 ∧ TY (rlN fu (clM M) (rnN fu (clM M))) ∧ (rlN fu (clM M) (rnN fu (clM M)) 25 0 = 0 → rnN fu (clM M) ≤ 8 ∧ (∀ i : Int, 0 ≤ i → i < rnN fu (clM M) → lok (M 1 0) (rlN fu (clM M) (rnN fu (clM M)) 27 i)) ∧ ∀ i j : Int, 0 ≤ i → i < rnN fu (clM M) → 0 ≤ j → j < rnN fu (clM M) → iab (rlN fu (clM M) (rnN fu (clM M)) 27 i) = iab (rlN fu (clM M) (rnN fu (clM M)) 27 j) → i = j) := by
  obtain ⟨k1, k2⟩ := rn_ok (fu := fu) (M := clM M) h8
  generalize rnN fu (clM M) = n at k1 k2 ⊢
  have hV := hR.V
  have hYc := hY.cl
  have hgk : ∀ k : Nat, k < n → rlN fu (clM M) k 25 0 = 0 := fun k hk => (k1 k hk).1
  have hYn := hYc.rd (fu := fu) hV n hgk
  have e1 : rlN fu (clM M) n 1 = M 1 := rlN_x _ _ (by decide) (by decide) (by decide) (by decide) n
  refine ⟨es_o (by rw [e1]; exact hR) hYn (rl_24 hYc hV n hgk) (fun q a b c d e => by rw [rlN_x _ _ b c d e]; show sM M 26 _ q = _; exact sM_n _ _ d), e1, hYn, fun z => ?_⟩
  have h9 := rd_8 (fu := fu) (M := clM M) h8 hgk z
  obtain ⟨l1, l2⟩ := rd_lits (fu := fu) (M := clM M) n (fun k hk => by
    by_cases e : k = n
    · rw [e]; exact z
    · exact hgk k (by omega))
  refine ⟨h9, fun i i0 i1 => ?_, fun i j i0 i1 j0 j1 => ?_⟩
  · have := (l1 i.toNat (by omega)).1
    rw [Int.toNat_of_nonneg i0] at this
    exact this
  · have := l2 i.toNat j.toNat (by omega) (by omega)
    rw [Int.toNat_of_nonneg i0, Int.toNat_of_nonneg j0] at this
    intro q
    have := this q
    omega
theorem ct_o {M : Mt} (hR : RI (M 1)) (hY : TY M) (hf0 : M 25 0 = 0) (hi : isl M) : StO M (ctM M) := by
  have h8 : fuC M 8 = 1 := if_pos (Or.inr rfl)
  obtain ⟨a1, a2, a3, a4⟩ := rl_o h8 hR hY
  obtain ⟨k1, k2⟩ := rn_ok (fu := fuC M) (M := clM M) h8
  unfold ctM ceM
  split
  · rename_i z
    have z0 := es_25 z
    obtain ⟨b1, b2, b3⟩ := a4 z0
    have hn1 : 1 ≤ rnN (fuC M) (clM M) := by
      by_cases e : rnN (fuC M) (clM M) = 0
      · exfalso
        rw [e] at k2
        exact k2 ⟨hf0, hi⟩
      · omega
    have hroom : M 1 2 < 80 ∧ M 1 1 < 400 := by
      have q1 : rlN (fuC M) (clM M) 1 25 0 = 0 := by
        by_cases e : rnN (fuC M) (clM M) = 1
        · rw [← e]; exact z0
        · exact (k1 1 (by omega)).1
      rw [rlN, stp_25 _ _ (k1 0 (by omega)).1] at q1
      have q2 := (liF_0 q1).1
      exact Classical.byContradiction (fun z => q2 (if_pos (Or.inl z)))
    refine a1.row ?_
    have e1 : esM (rlN (fuC M) (clM M) (rnN (fuC M) (clM M))) 1 = M 1 := (es_q _ (by decide) (by decide)).trans a2
    have e7 : esM (rlN (fuC M) (clM M) (rnN (fuC M) (clM M))) 27 = rlN (fuC M) (clM M) (rnN (fuC M) (clM M)) 27 := es_q _ (by decide) (by decide)
    rw [e1, e7]
    exact hR.clause9 (by omega) hroom.1 hroom.2 b2 b3
  · exact a1
theorem at_o {M : Mt} (hR : RI (M 1)) (hY : TY M) : StO M (atM M) := by
  have h8 : fuA 8 = 1 := if_pos rfl
  obtain ⟨a1, a2, a3, a4⟩ := rl_o h8 hR hY
  unfold atM aeM
  split
  · rename_i z
    obtain ⟨b1, b2, b3⟩ := a4 (es_25 z)
    refine a1.row ?_
    have e1 : esM (rlN fuA (clM M) (rnN fuA (clM M))) 1 = M 1 := (es_q _ (by decide) (by decide)).trans a2
    have e7 : esM (rlN fuA (clM M) (rnN fuA (clM M))) 27 = rlN fuA (clM M) (rnN fuA (clM M)) 27 := es_q _ (by decide) (by decide)
    rw [e1, e7]
    exact hR.asR9 (by omega) b2 b3
  · exact a1
theorem TY.nu9 {M : Mt} (hY : TY M) : TY (nuM M) ∧ M 24 0 ≤ nuM M 24 0 := by
  obtain ⟨hX, hp, hl⟩ := hY
  have h := hX.nu hp
  have h3 := hX.2.2.1
  rw [nu_24]
  have hB : M 24 0 ≤ nuB M := (sk_rg _ _ _).1
  have hE : nuB M ≤ nuE M := (dg_rg _ _ _).1
  refine ⟨⟨h.1, by rw [nu_24]; exact h.2, fun z => ?_⟩, by omega⟩
  have z0 : M 25 0 = 0 := by
    unfold nuM at z
    split at z
    · exact z
    · rw [fl_25] at z
      split at z
      · assumption
      · exact z
  rw [nu_24, nu_x M 23 (by decide) (by decide)]
  exact dg_le (Int.le_refl _) (sk_le (Int.le_refl _) (hl z0))
theorem gt_o {M : Mt} (hR : RI (M 1)) (hY : TY M) : StO M (gtM M) := by
  obtain ⟨hYn, hpn⟩ := hY.nu9
  have hV := hR.V
  have hx := nu_x M
  have e1 : nuM M 1 = M 1 := hx 1 (by decide) (by decide)
  have hB0 : 0 ≤ nuB M := Int.le_trans hY.1.2.2.2.1.1 (sk_rg _ _ _).1
  have hB5 : nuB M ≤ 500 := sk_le (by have := hY.1.2.2.1; omega) hY.2.1
  have hq : ∀ q : Nat, q ≠ 1 → q ≠ 24 → q ≠ 25 → q ≠ 26 → q ≠ 27 → nuM M q = M q := fun q a b c d e => hx q b c
  unfold gtM gtN
  split
  · rename_i z
    split
    · refine es_o ?_ ?_ ?_ ?_
      · rw [xsm_fl hx _ _ 1 (by decide) (by decide)]; exact hR
      · refine ⟨hYn.1.fl (by omega) (by omega), by rw [fl_24]; exact hYn.2.1, fun w => ?_⟩
        rw [fl_25, if_pos z] at w
        omega
      · rw [fl_24]; exact hpn
      · exact fun q a b c d e => xsm_fl hx _ _ q b c
    · rename_i w
      refine es_o ?_ hYn hpn ?_
      · rw [oM_s, e1]
        exact hR.grow9 (by omega)
      · exact fun q a b c d e => (oM_n _ _ _ a).trans (hq q a b c d e)
  · exact es_o (by rw [e1]; exact hR) hYn hpn hq
/-- one phase more -/
def stP (M : Mt) : Mt := if liF M 0 0 = 0 then oM (liM M 0 0) 1 (32 + iab (liL M)) (if 0 < liL M then 1 else 0) else liM M 0 0
def phN (M : Mt) : Nat → Mt
  | 0 => M
  | n + 1 => stP (phN M n)
noncomputable def pnN (M : Mt) : Nat := lea (fun n => 1 ≤ n ∧ ¬ go9 (phN M n))
noncomputable def ptM (M : Mt) : Mt := esM (phN M (pnN M))
theorem stP_24 (M : Mt) : stP M 24 0 = liE M := by
  unfold stP liM
  (repeat' split) <;> first | rfl | contradiction
theorem stP_25 {M : Mt} (h : M 25 0 = 0) : stP M 25 0 = liF M 0 0 := by
  unfold stP
  split
  · rename_i e
    rw [e]
    show liM M 0 0 25 0 = 0
    rw [li_25 h]; exact e
  · exact li_25 h
theorem stP_q (M : Mt) {q : Nat} (h1 : q ≠ 1) (h4 : q ≠ 24) (h5 : q ≠ 25) (h6 : q ≠ 26) : stP M q = M q := by
  unfold stP liM
  split
  · rw [oM_n _ _ _ h1, oM_n _ _ _ h6, oM_n _ _ _ h4]
  · rw [oM_n _ _ _ h5, oM_n _ _ _ h4]
theorem liL_ok {M : Mt} (hX : TX M) (hp : M 24 0 ≤ 500) : -99 ≤ liL M ∧ liL M ≤ 99 ∧ (0 ≤ iab (liL M) ∧ iab (liL M) = liV M) := by
  have := (hX.li hp 0 0).2.2.2.2.1
  unfold liL iab
  (repeat' split) <;> omega
theorem stP_o {M : Mt} (hR : RI (M 1)) (hY : TY M) (h0 : M 25 0 = 0) : RI (stP M 1) ∧ TY (stP M) ∧ (stP M 25 0 = 0 → M 24 0 < stP M 24 0) ∧ M 24 0 ≤ stP M 24 0 := by
  have hV := hR.V
  have h := hY.li h0 0 0 hV
  have hr := hY.1.li hY.2.1 0 0
  have hL := liL_ok hY.1 hY.2.1
  have e24 := stP_24 M
  have e25 := stP_25 h0
  refine ⟨?_, ?_, fun z => ?_, by omega⟩
  · unfold stP
    split
    · rename_i z
      have z9 := liF_0 z
      have e : liM M 0 0 1 = M 1 := by unfold liM; rw [if_pos z]; rfl
      rw [oM_s, e]
      exact hR.ph9 (by omega) (by split <;> omega)
    · rename_i z
      have e : liM M 0 0 1 = M 1 := by unfold liM; rw [if_neg z]; rfl
      rw [e]; exact hR
  · unfold stP
    split
    · exact h
    · exact h
  · rw [e25] at z
    have z9 := liF_0 z
    omega
theorem ph_o {M : Mt} (hR : RI (M 1)) (hY : TY M) (h0 : M 25 0 = 0) : ∀ n : Nat, (∀ k : Nat, k < n → phN M k 25 0 = 0) → RI (phN M n 1) ∧ TY (phN M n) ∧ M 24 0 ≤ phN M n 24 0 ∧ (phN M n 25 0 = 0 → M 24 0 + n ≤ phN M n 24 0) ∧ (∀ q : Nat, q ≠ 1 → q ≠ 24 → q ≠ 25 → q ≠ 26 → phN M n q = M q)
  | 0, _ => ⟨hR, hY, Int.le_refl _, fun _ => by show M 24 0 + 0 ≤ M 24 0; omega, fun _ _ _ _ _ => rfl⟩
  | n + 1, h => by
    obtain ⟨i1, i2, i3, i4, i5⟩ := ph_o hR hY h0 n (fun k hk => h k (by omega))
    have hn := h n (by omega)
    obtain ⟨j1, j2, j3, j4⟩ := stP_o i1 i2 hn
    refine ⟨j1, j2, ?_, fun z => ?_, fun q a b c d => (stP_q _ a b c d).trans (i5 q a b c d)⟩
    · show M 24 0 ≤ stP (phN M n) 24 0
      omega
    · have := j3 z
      have := i4 hn
      show M 24 0 + (n + 1 : Nat) ≤ stP (phN M n) 24 0
      omega
theorem pn_ok {M : Mt} (hR : RI (M 1)) (hY : TY M) (h0 : M 25 0 = 0) : (1 ≤ pnN M ∧ ¬ go9 (phN M (pnN M))) ∧ ∀ k : Nat, 1 ≤ k → k < pnN M → go9 (phN M k) := by
  have hex : ∃ m : Nat, 1 ≤ m ∧ ¬ go9 (phN M m) := by
    refine Classical.byContradiction (fun q => ?_)
    have hall : ∀ m : Nat, 1 ≤ m → go9 (phN M m) := fun m hm => Classical.byContradiction (fun z => q ⟨m, hm, z⟩)
    have hz : ∀ k : Nat, phN M k 25 0 = 0 := fun k => by
      by_cases e : k = 0
      · rw [e]; exact h0
      · exact (hall k (by omega)).1
    obtain ⟨i1, i2, i3, i4, i5⟩ := ph_o hR hY h0 501 (fun k _ => hz k)
    have := i4 (hz 501)
    have := i2.2.1
    have := hY.1.2.2.2.1
    omega
  obtain ⟨m, hm⟩ := hex
  obtain ⟨a, b⟩ := lea_ex (p := fun n => 1 ≤ n ∧ ¬ go9 (phN M n)) hm
  exact ⟨a, fun k k0 hk => Classical.byContradiction (fun z => b k hk ⟨k0, z⟩)⟩
theorem pt_o {M : Mt} (hR : RI (M 1)) (hY : TY M) (h0 : M 25 0 = 0) : StO M (ptM M) := by
  obtain ⟨⟨a1, a2⟩, a3⟩ := pn_ok hR hY h0
  unfold ptM
  generalize pnN M = n at a1 a2 a3 ⊢
  have hz : ∀ k : Nat, k < n → phN M k 25 0 = 0 := fun k hk => by
    by_cases e : k = 0
    · rw [e]; exact h0
    · exact (a3 k (by omega) hk).1
  obtain ⟨i1, i2, i3, i4, i5⟩ := ph_o hR hY h0 n hz
  exact es_o i1 i2 i3 (fun q a b c d e => i5 q a b c d)
theorem stP_hr (M : Mt) : stP (hrM M) = stP M := by unfold stP; rw [liF_hr, liM_hr, liL_hr]
theorem lt9_rg (T : Int → Int) (n p : Int) : p ≤ lt9 T n p ∧ (p ≤ n → lt9 T n p ≤ n) := by
  have key : ∀ (f : Nat) (p : Int), p ≤ ltF T n f p ∧ (p ≤ n → ltF T n f p ≤ n) := by
    intro f
    induction f with
    | zero => intro p; exact ⟨Int.le_refl _, id⟩
    | succ f ih =>
      intro p
      unfold ltF
      split
      · have := ih (p + 1)
        exact ⟨by omega, fun h => this.2 (by omega)⟩
      · exact ⟨Int.le_refl _, id⟩
  exact key _ p
theorem lt9_le {T : Int → Int} {n p b : Int} (hn : n ≤ b) (hp : p ≤ b) : lt9 T n p ≤ b := by
  by_cases e : p ≤ n
  · have := (lt9_rg T n p).2 e; omega
  · rw [lt9_out (by omega)]; exact hp
theorem woE_hr (M : Mt) : woE (hrM M) = woE M := by
  show lt9 (M 21) (M 23 0) (nuB (hrM M)) = _
  rw [nuB_hr]; rfl
theorem woV_hr (M : Mt) : woV (hrM M) = woV M := by
  show wdF (M 21) (nuB (hrM M)) (woE (hrM M) - nuB (hrM M)).toNat = _
  rw [nuB_hr, woE_hr]; rfl
def woM (M : Mt) : Mt := oM M 24 0 (woE M)
theorem wo_hr (M : Mt) : woM (hrM M) = woM M := by
  unfold woM
  rw [woE_hr]
  unfold hrM
  rw [oM_oM]
theorem TY.wo {M : Mt} (hY : TY M) : TY (woM M) ∧ M 24 0 ≤ woM M 24 0 := by
  obtain ⟨hX, hp, hl⟩ := hY
  have h3 := hX.2.2.1
  have h4 := hX.2.2.2.1
  have hB : M 24 0 ≤ nuB M ∧ nuB M ≤ 500 := ⟨(sk_rg _ _ _).1, sk_le (by omega) hp⟩
  have hE : nuB M ≤ woE M ∧ woE M ≤ 500 := ⟨(lt9_rg _ _ _).1, lt9_le (by omega) (by omega)⟩
  refine ⟨⟨hX.at (by omega), hE.2, fun z => ?_⟩, ?_⟩
  · show woE M ≤ M 23 0
    exact lt9_le (Int.le_refl _) (sk_le (Int.le_refl _) (hl z))
  · show M 24 0 ≤ woE M
    omega
/-- a statement -/
noncomputable def stM (M : Mt) : Mt := cif (isl M) (ctM (hrM M)) (if woV M = 151331 then gtM (woM M) else if woV M = 24835928 then atM (woM M) else if woV M = 8661767 then ptM (woM M) else flM (woM M) 1 (nuB M))
theorem st_hr (M : Mt) : stM (hrM M) = stM M := by
  unfold stM
  rw [woV_hr, wo_hr, nuB_hr, hrM_hrM]
  by_cases q : isl M
  · rw [cif_t q, cif_t ((isl_hr M).mpr q)]
  · rw [cif_f q, cif_f (fun z => q ((isl_hr M).mp z))]
theorem StO.pre {M N P : Mt} (h : StO N P) (hp : M 24 0 ≤ N 24 0) (hq : ∀ q : Nat, q ≠ 24 → N q = M q) : StO M P := by
  obtain ⟨h1, h2, h3, h4, h5, h6, h7⟩ := h
  refine ⟨h1, h2, h3.trans (hq 21 (by decide)), h4.trans (hq 22 (by decide)), h5.trans (hq 23 (by decide)), fun q a b c d e => (h6 q a b c d e).trans (hq q b), fun z => ?_⟩
  have := h7 z
  omega
theorem st_o {M : Mt} (hR : RI (M 1)) (hY : TY M) (h0 : M 25 0 = 0) : StO M (stM M) := by
  have hB : M 24 0 ≤ nuB M := (sk_rg _ _ _).1
  unfold stM
  by_cases q : isl M
  · rw [cif_t q]
    exact (ct_o (M := hrM M) hR hY.hr9 h0 ((isl_hr M).mpr q)).pre hB (fun q a => oM_n _ _ _ a)
  · rw [cif_f q]
    obtain ⟨w1, w2⟩ := hY.wo
    have hq : ∀ q : Nat, q ≠ 24 → woM M q = M q := fun q a => oM_n _ _ _ a
    have hR' : RI (woM M 1) := hR
    (repeat' split)
    · exact (gt_o hR' w1).pre w2 hq
    · exact (at_o hR' w1).pre w2 hq
    · exact (pt_o hR' w1 h0).pre w2 hq
    · have hB0 : 0 ≤ nuB M := Int.le_trans hY.1.2.2.2.1.1 hB
      have hB5 : nuB M ≤ 500 := sk_le (by have := hY.1.2.2.1; omega) hY.2.1
      have hx : xsm (woM M) (flM (woM M) 1 (nuB M)) := xsm_fl (fun q a b => rfl) _ _
      refine StO.pre (N := woM M) ⟨?_, w1.1.fl (by omega) (by omega), hx 21 (by decide) (by decide), hx 22 (by decide) (by decide), hx 23 (by decide) (by decide), fun q a b c d e => hx q b c, fun z => ?_⟩ w2 hq
      · rw [hx 1 (by decide) (by decide)]; exact hR'
      · rw [fl_25, if_pos (show woM M 25 0 = 0 from h0)] at z
        omega
/-- a text: statement by statement -/
noncomputable def txN (M : Mt) : Nat → Mt
  | 0 => M
  | n + 1 => stM (txN M n)
def gos (M : Mt) : Prop := M 25 0 = 0 ∧ hr M ≠ -1
noncomputable def tnN (M : Mt) : Nat := lea (fun n => ¬ gos (txN M n))
def tsM (M : Mt) : Mt := oM (oM (oM (oM (oM M 0 0 0) 23 0 (M 22 0)) 22 0 0) 24 0 0) 25 0 0
def tbM (M : Mt) : Mt := sM (tsM M) 2 (kpF (M 2) 0 13326 (M 1))
noncomputable def tlM (M : Mt) : Int × Mt := if txN (tbM M) (tnN (tbM M)) 25 0 = 0 then ((tnN (tbM M) : Int), hrM (txN (tbM M) (tnN (tbM M)))) else (-1, sM (txN (tbM M) (tnN (tbM M))) 1 (kpF (txN (tbM M) (tnN (tbM M)) 1) 0 13326 (txN (tbM M) (tnN (tbM M)) 2)))
theorem kp0_s {K R : Int → Int} {i w : Int} (hi : 0 ≤ i) (hw : w = R i) : oI (kpF K 0 i R) i w = kpF K 0 (i + 1) R := by
  have := kpF_s (K := K) (R := R) (b := 0) (i := i) (w := w) hi hw
  rw [show (0 : Int) + i = i by omega] at this
  exact this
theorem tx_o {M : Mt} (hR : RI (M 1)) (hY : TY M) : ∀ n : Nat, (∀ k : Nat, k < n → gos (txN M k)) → RI (txN M n 1) ∧ TX (txN M n) ∧ (txN M n 25 0 = 0 → TY (txN M n) ∧ M 24 0 + n ≤ txN M n 24 0) ∧ (∀ q : Nat, q ≠ 1 → q ≠ 24 → q ≠ 25 → q ≠ 26 → q ≠ 27 → txN M n q = M q)
  | 0, _ => ⟨hR, hY.1, fun _ => ⟨hY, by show M 24 0 + 0 ≤ M 24 0; omega⟩, fun _ _ _ _ _ _ => rfl⟩
  | n + 1, h => by
    obtain ⟨i1, i2, i3, i4⟩ := tx_o hR hY n (fun k hk => h k (by omega))
    have hg := h n (by omega)
    obtain ⟨j1, j2⟩ := i3 hg.1
    obtain ⟨s1, s2, s3, s4, s5, s6, s7⟩ := st_o i1 j1 hg.1
    refine ⟨s1, s2, fun z => ?_, fun q a b c d e => (s6 q a b c d e).trans (i4 q a b c d e)⟩
    have := s7 z
    have h23 := s2.2.2.1
    refine ⟨⟨s2, ?_, fun _ => this.2⟩, ?_⟩
    · show stM (txN M n) 24 0 ≤ 500
      omega
    · show M 24 0 + (n + 1 : Nat) ≤ stM (txN M n) 24 0
      omega
theorem ts_Y {M : Mt} (hX : TX M) : TY (tbM M) := by
  obtain ⟨h1, h2, h3, h4, h5, h6⟩ := hX
  refine ⟨⟨h1, ?_, h2, ?_, ?_, h6⟩, ?_, fun _ => ?_⟩
  · show 0 ≤ (0 : Int) ∧ (0 : Int) ≤ 400
    omega
  · show 0 ≤ (0 : Int) ∧ (0 : Int) ≤ 1000
    omega
  · show 0 ≤ (0 : Int) ∧ (0 : Int) ≤ 100000
    omega
  · show (0 : Int) ≤ 500
    omega
  · show (0 : Int) ≤ M 22 0
    exact h2.1
def cm9 (a b : Int64) : Int := (lg_cmp a b).toInt
theorem cm9_e (a b : Int64) : lg_cmp a b = Int32.ofInt (cm9 a b) := (Int32.ofInt_toInt _).symm
theorem cm9_0 (a b : Int64) : (cm9 a b = 0 ↔ a = b) ∧ -1 ≤ cm9 a b ∧ cm9 a b ≤ 1 := by
  unfold cm9 lg_cmp
  by_cases h : a = b
  · subst h
    simp
  · by_cases h2 : b < a
    · simp [h, h2]
    · simp [h, h2]
theorem pd_X3_phaseTold : yX3_phaseTold.cls = RX3 ∧ yX3_phaseTold.cls ≠ "java/lang/invoke/MethodHandle" ∧ yX3_phaseTold.cls ≠ "java/lang/invoke/VarHandle" ∧ (parseMethodDescriptor yX3_phaseTold.desc).map (fun d => d.parameters.length) = some 0 := by decide +kernel
theorem ct_X3_phaseTold (l : Launch) (G : Gt) (KS : Ks l G) (x : Nat) (M : Mt) (hR : RI (M 1)) (hY : TY M) (hf0 : M 25 0 = 0) : TV l G yX3_phaseTold cX3_phaseTold 3 5 x [] M (fun M' => M' = ptM M) := by
  intro h0 h hT
  refine ct_of KS (by decide) (Nat.le_of_ble_eq_true rfl) (fun X F E => ?_)
  refine j_lv (lv' := [(0, .ref x)]) ⟨rfl, trivial⟩ ?_
  refine j_iconst F dX3_phaseTold_0 ?_
  refine j_istore_n F (by decide) dX3_phaseTold_1 ?_
  have L2 : ∀ (m2 : Nat) (n : Nat) (w : Int) (N : Mt) (h : Hp), ((w = if n = 0 then 1 else 0) ∧ (∀ k : Nat, 1 ≤ k → k < n → go9 (phN M k)) ∧ (∀ k : Nat, k < n → phN M k 25 0 = 0) ∧ N = phN M n) → (if phN M n 25 0 = 0 then (500 - phN M n 24 0).toNat + 1 else 0) < m2 → Tw G x N h0 h → J X h 2 [(0, .ref x), (1, vI w)] [] 0 0 := by
    intro m2
    induction m2 with
    | zero => intro n w N h hI hm2 hT; exact absurd hm2 (Nat.not_lt_zero _)
    | succ m2 ih2 =>
      intro n w N h hI hm2 hT
      obtain ⟨hw, hI1, hIz, hI2⟩ := hI
      subst hI2
      obtain ⟨i1, i2, i3, i4, i5⟩ := ph_o hR hY hf0 n hIz
      have hXn := i2.1
      have hfn := hXn.2.2.2.2.1
      have hVn := i1.V
      have hw01 : w = 0 ∨ w = 1 := by split at hw <;> omega
      refine j_aload_n F rfl dX3_phaseTold_2 ?_
      refine t_get F hT 25 (by decide) rfl q1511 dX3_phaseTold_3 ?_
      refine j_if_ne F 60 (by decide) (by omega) dX3_phaseTold_6 (fun c6 => ?_) (fun c6 => ?_)
      · skip
        have hn1 : 1 ≤ n := by
          by_cases e : n = 0
          · rw [e] at c6; exact absurd hf0 c6
          · omega
        have hnn : pnN M = n := lea_at ⟨hn1, fun q => c6 q.1⟩ (fun k hk q => q.2 (hI1 k q.1 hk))
        refine j_aload_n F rfl dX3_phaseTold_60 ?_
        refine t_callV F hT (ct_X3_endsStatement l G KS x _ hXn) (by decide) (by decide) (lw_V q1888 q1890 qs99 q110 q1891) pd_X3_endsStatement rfl (Nat.le_of_ble_eq_true rfl) (Nat.le_refl _) (Nat.le_refl _) dX3_phaseTold_61 (fun M61 h hv61 hT => ?_)
        skip
        exact j_vret F E (Nat.zero_le _) (Nat.zero_le _) dX3_phaseTold_64 (tv_post hT (by rw [hv61]; unfold ptM; rw [hnn]))
      · skip
        refine j_iload_n F rfl dX3_phaseTold_9 ?_
        refine j_if_ne F 20 (by decide) (by omega) dX3_phaseTold_10 (fun c10 => ?_) (fun c10 => ?_)
        · skip
          have hn0 : n = 0 := by split at hw <;> omega
          have hgo : 1 ≤ n → go9 (phN M n) := fun q => by omega
          refine j_aload_n F rfl dX3_phaseTold_20 ?_
          refine j_iconst F dX3_phaseTold_21 ?_
          refine j_iconst F dX3_phaseTold_22 ?_
          refine t_callI F hT (ct_X3_litE l G KS x _ (u := 0) (fu := 0) (Or.inl rfl) (Or.inl rfl) hVn hXn i2.2.1 c6) (by decide) (by decide) (lw_V q1828 q1830 qs90 q110 q1831) pd_X3_lit rfl (Nat.le_of_ble_eq_true rfl) (Nat.le_refl _) (Nat.le_refl _) dX3_phaseTold_23 (fun v23 M23 h hv23 hT => ?_)
          obtain ⟨e23, q23⟩ := hv23
          subst q23
          have e25 := li_25 (u := 0) (b := 0) c6
          have hlr := hXn.li i2.2.1 0 0
          have hL := liL_ok hXn i2.2.1
          refine j_istore_n F (by decide) dX3_phaseTold_26 ?_
          refine j_aload_n F rfl dX3_phaseTold_27 ?_
          refine t_get F hT 25 (by decide) (v := vI (liF (phN M n) 0 0)) (congrArg (fun z => some (vI z)) e25) q1511 dX3_phaseTold_28 ?_
          refine j_if_ne F 55 (by decide) (by omega) dX3_phaseTold_31 (fun c31 => ?_) (fun c31 => ?_)
          · skip
            refine j_iconst F dX3_phaseTold_55 ?_
            refine j_istore_n F (by decide) dX3_phaseTold_56 ?_
            refine j_goto F 2 (by decide) dX3_phaseTold_57 ?_
            refine j_lv (lv' := [(0, .ref x), (1, vI 0)]) ⟨rfl, rfl, trivial⟩ ?_
            exact ih2 (n + 1) 0 _ _ ⟨by rw [if_neg (by omega)], fun k k0 hk => by
              by_cases e : k = n
              · rw [e]; exact hgo (by omega)
              · exact hI1 k k0 (by omega), fun k hk => by
              by_cases e : k = n
              · rw [e]; exact c6
              · exact hIz k (by omega), by show _ = stP (phN M n); unfold stP; rw [if_neg c31]⟩ (by
              rw [if_pos c6] at hm2
              have e25 := stP_25 c6
              have hst := stP_o i1 i2 c6
              have h5 := hst.2.1.2.1
              show (if stP (phN M n) 25 0 = 0 then (500 - stP (phN M n) 24 0).toNat + 1 else 0) < m2
              split
              · rename_i z
                have := hst.2.2.1 z
                omega
              · omega) hT
          · skip
            rw [if_pos c31] at e23
            subst e23
            have h9 := liF_0 c31
            refine j_aload_n F rfl dX3_phaseTold_34 ?_
            refine t_get F hT 1 (by decide) rfl q1487 dX3_phaseTold_35 ?_
            refine j_bipush F (by decide) dX3_phaseTold_38 ?_
            refine j_iload_n F rfl dX3_phaseTold_40 ?_
            refine s_callI F (ct_X3_size l G KS (a := liL (phN M n)) (by unfold rg; omega)) (by decide) (by decide) (lw_S q1591 q1592 q110 q1593) pd_X3_size rfl (Nat.le_of_ble_eq_true rfl) (Nat.le_refl _) (Nat.le_refl _) dX3_phaseTold_41 (fun v41 hv41 => ?_)
            subst hv41
            refine j_iadd F dX3_phaseTold_44 ?_
            refine j_joinT (x := x) (M := liM (phN M n) 0 0) (G := G) (h0 := h0) 54 (fun w9 => w9 = if 0 < liL (phN M n) then 1 else 0) (fun w9 h hw9 hT => ?_) (fun Kj45 => ?_)
            · skip
              refine t_iast F hT 1 tm_1 rfl (by omega) dX3_phaseTold_54 (fun h hT => ?_)
              refine j_iconst F dX3_phaseTold_55 ?_
              refine j_istore_n F (by decide) dX3_phaseTold_56 ?_
              refine j_goto F 2 (by decide) dX3_phaseTold_57 ?_
              refine j_lv (lv' := [(0, .ref x), (1, vI 0)]) ⟨rfl, rfl, trivial⟩ ?_
              exact ih2 (n + 1) 0 _ _ ⟨by rw [if_neg (by omega)], fun k k0 hk => by
                by_cases e : k = n
                · rw [e]; exact hgo (by omega)
                · exact hI1 k k0 (by omega), fun k hk => by
                by_cases e : k = n
                · rw [e]; exact c6
                · exact hIz k (by omega), by show _ = stP (phN M n); unfold stP; rw [if_pos c31, ← hw9]⟩ (by
                rw [if_pos c6] at hm2
                have e25 := stP_25 c6
                have hst := stP_o i1 i2 c6
                have h5 := hst.2.1.2.1
                show (if stP (phN M n) 25 0 = 0 then (500 - stP (phN M n) 24 0).toNat + 1 else 0) < m2
                split
                · rename_i z
                  have := hst.2.2.1 z
                  omega
                · omega) hT
            · skip
              refine j_iload_n F rfl dX3_phaseTold_45 ?_
              refine j_if_le F 53 (by decide) (by omega) dX3_phaseTold_46 (fun c46 => ?_) (fun c46 => ?_)
              · skip
                refine j_iconst F dX3_phaseTold_53 ?_
                exact Kj45 _ _ (by first | rw [if_pos (by omega)] | rw [if_neg (by omega)]) hT
              · skip
                refine j_iconst F dX3_phaseTold_49 ?_
                refine j_goto F 54 (by decide) dX3_phaseTold_50 ?_
                exact Kj45 _ _ (by first | rw [if_pos (by omega)] | rw [if_neg (by omega)]) hT
        · skip
          have hn1 : 1 ≤ n := by split at hw <;> omega
          refine j_aload_n F rfl dX3_phaseTold_13 ?_
          refine t_callI F hT (ct_X3_isLit l G KS x _ hXn) (by decide) (by decide) (lw_V q1880 q1882 qs97 q110 q1883) pd_X3_isLit rfl (Nat.le_of_ble_eq_true rfl) (Nat.le_refl _) (Nat.le_refl _) dX3_phaseTold_14 (fun v14 M14 h hv14 hT => ?_)
          obtain ⟨e14, q14⟩ := hv14
          subst q14
          have z14 := z01 e14
          refine j_if_eq F 60 (by decide) (by omega) dX3_phaseTold_17 (fun c17 => ?_) (fun c17 => ?_)
          · skip
            have hst9 : ¬ go9 (phN M n) := fun q => by rw [if_pos (show hr (phN M n) = 45 ∨ (48 ≤ hr (phN M n) ∧ hr (phN M n) ≤ 57) from q.2)] at e14; omega
            have hnn : pnN M = n := lea_at ⟨hn1, hst9⟩ (fun k hk q => q.2 (hI1 k q.1 hk))
            refine j_aload_n F rfl dX3_phaseTold_60 ?_
            refine t_callV F hT (ct_X3_endsStatement l G KS x _ hXn.hr) (by decide) (by decide) (lw_V q1888 q1890 qs99 q110 q1891) pd_X3_endsStatement rfl (Nat.le_of_ble_eq_true rfl) (Nat.le_refl _) (Nat.le_refl _) dX3_phaseTold_61 (fun M61 h hv61 hT => ?_)
            rw [es_hr c6] at hv61
            exact j_vret F E (Nat.zero_le _) (Nat.zero_le _) dX3_phaseTold_64 (tv_post hT (by rw [hv61]; unfold ptM; rw [hnn]))
          · skip
            have hgo : 1 ≤ n → go9 (phN M n) := fun _ => ⟨c6, Classical.byContradiction (fun z => by rw [if_neg (show ¬ (hr (phN M n) = 45 ∨ (48 ≤ hr (phN M n) ∧ hr (phN M n) ≤ 57)) from z)] at e14; omega)⟩
            refine j_aload_n F rfl dX3_phaseTold_20 ?_
            refine j_iconst F dX3_phaseTold_21 ?_
            refine j_iconst F dX3_phaseTold_22 ?_
            refine t_callI F hT (ct_X3_litE l G KS x _ (u := 0) (fu := 0) (Or.inl rfl) (Or.inl rfl) hVn hXn.hr i2.hr9.2.1 c6) (by decide) (by decide) (lw_V q1828 q1830 qs90 q110 q1831) pd_X3_lit rfl (Nat.le_of_ble_eq_true rfl) (Nat.le_refl _) (Nat.le_refl _) dX3_phaseTold_23 (fun v23 M23 h hv23 hT => ?_)
            obtain ⟨e23, q23⟩ := hv23
            rw [liF_hr, liL_hr] at e23
            rw [liM_hr] at q23
            subst q23
            have e25 := li_25 (u := 0) (b := 0) c6
            have hlr := hXn.li i2.2.1 0 0
            have hL := liL_ok hXn i2.2.1
            refine j_istore_n F (by decide) dX3_phaseTold_26 ?_
            refine j_aload_n F rfl dX3_phaseTold_27 ?_
            refine t_get F hT 25 (by decide) (v := vI (liF (phN M n) 0 0)) (congrArg (fun z => some (vI z)) e25) q1511 dX3_phaseTold_28 ?_
            refine j_if_ne F 55 (by decide) (by omega) dX3_phaseTold_31 (fun c31 => ?_) (fun c31 => ?_)
            · skip
              refine j_iconst F dX3_phaseTold_55 ?_
              refine j_istore_n F (by decide) dX3_phaseTold_56 ?_
              refine j_goto F 2 (by decide) dX3_phaseTold_57 ?_
              refine j_lv (lv' := [(0, .ref x), (1, vI 0)]) ⟨rfl, rfl, trivial⟩ ?_
              exact ih2 (n + 1) 0 _ _ ⟨by rw [if_neg (by omega)], fun k k0 hk => by
                by_cases e : k = n
                · rw [e]; exact hgo (by omega)
                · exact hI1 k k0 (by omega), fun k hk => by
                by_cases e : k = n
                · rw [e]; exact c6
                · exact hIz k (by omega), by show _ = stP (phN M n); unfold stP; rw [if_neg c31]⟩ (by
                rw [if_pos c6] at hm2
                have e25 := stP_25 c6
                have hst := stP_o i1 i2 c6
                have h5 := hst.2.1.2.1
                show (if stP (phN M n) 25 0 = 0 then (500 - stP (phN M n) 24 0).toNat + 1 else 0) < m2
                split
                · rename_i z
                  have := hst.2.2.1 z
                  omega
                · omega) hT
            · skip
              rw [if_pos c31] at e23
              subst e23
              have h9 := liF_0 c31
              refine j_aload_n F rfl dX3_phaseTold_34 ?_
              refine t_get F hT 1 (by decide) rfl q1487 dX3_phaseTold_35 ?_
              refine j_bipush F (by decide) dX3_phaseTold_38 ?_
              refine j_iload_n F rfl dX3_phaseTold_40 ?_
              refine s_callI F (ct_X3_size l G KS (a := liL (phN M n)) (by unfold rg; omega)) (by decide) (by decide) (lw_S q1591 q1592 q110 q1593) pd_X3_size rfl (Nat.le_of_ble_eq_true rfl) (Nat.le_refl _) (Nat.le_refl _) dX3_phaseTold_41 (fun v41 hv41 => ?_)
              subst hv41
              refine j_iadd F dX3_phaseTold_44 ?_
              refine j_joinT (x := x) (M := liM (phN M n) 0 0) (G := G) (h0 := h0) 54 (fun w9 => w9 = if 0 < liL (phN M n) then 1 else 0) (fun w9 h hw9 hT => ?_) (fun Kj45 => ?_)
              · skip
                refine t_iast F hT 1 tm_1 rfl (by omega) dX3_phaseTold_54 (fun h hT => ?_)
                refine j_iconst F dX3_phaseTold_55 ?_
                refine j_istore_n F (by decide) dX3_phaseTold_56 ?_
                refine j_goto F 2 (by decide) dX3_phaseTold_57 ?_
                refine j_lv (lv' := [(0, .ref x), (1, vI 0)]) ⟨rfl, rfl, trivial⟩ ?_
                exact ih2 (n + 1) 0 _ _ ⟨by rw [if_neg (by omega)], fun k k0 hk => by
                  by_cases e : k = n
                  · rw [e]; exact hgo (by omega)
                  · exact hI1 k k0 (by omega), fun k hk => by
                  by_cases e : k = n
                  · rw [e]; exact c6
                  · exact hIz k (by omega), by show _ = stP (phN M n); unfold stP; rw [if_pos c31, ← hw9]⟩ (by
                  rw [if_pos c6] at hm2
                  have e25 := stP_25 c6
                  have hst := stP_o i1 i2 c6
                  have h5 := hst.2.1.2.1
                  show (if stP (phN M n) 25 0 = 0 then (500 - stP (phN M n) 24 0).toNat + 1 else 0) < m2
                  split
                  · rename_i z
                    have := hst.2.2.1 z
                    omega
                  · omega) hT
              · skip
                refine j_iload_n F rfl dX3_phaseTold_45 ?_
                refine j_if_le F 53 (by decide) (by omega) dX3_phaseTold_46 (fun c46 => ?_) (fun c46 => ?_)
                · skip
                  refine j_iconst F dX3_phaseTold_53 ?_
                  exact Kj45 _ _ (by first | rw [if_pos (by omega)] | rw [if_neg (by omega)]) hT
                · skip
                  refine j_iconst F dX3_phaseTold_49 ?_
                  refine j_goto F 54 (by decide) dX3_phaseTold_50 ?_
                  exact Kj45 _ _ (by first | rw [if_pos (by omega)] | rw [if_neg (by omega)]) hT
  refine j_lv (lv' := [(0, .ref x), (1, vI 1)]) ⟨rfl, rfl, trivial⟩ ?_
  exact L2 _ 0 1 _ _ ⟨rfl, fun k _ hk => absurd hk (Nat.not_lt_zero _), fun k hk => absurd hk (Nat.not_lt_zero _), rfl⟩ (Nat.lt_succ_self _) hT

theorem pd_X3_statement : yX3_statement.cls = RX3 ∧ yX3_statement.cls ≠ "java/lang/invoke/MethodHandle" ∧ yX3_statement.cls ≠ "java/lang/invoke/VarHandle" ∧ (parseMethodDescriptor yX3_statement.desc).map (fun d => d.parameters.length) = some 0 := by decide +kernel
theorem ct_X3_statement (l : Launch) (G : Gt) (KS : Ks l G) (x : Nat) (M : Mt) (hR : RI (M 1)) (hY : TY M) (hf0 : M 25 0 = 0) : TV l G yX3_statement cX3_statement 4 6 x [] M (fun M' => M' = stM M) := by
  intro h0 h hT
  refine ct_of KS (by decide) (Nat.le_of_ble_eq_true rfl) (fun X F E => ?_)
  refine j_lv (lv' := [(0, .ref x)]) ⟨rfl, trivial⟩ ?_
  obtain ⟨w1, w2⟩ := hY.wo
  have hY9 := hY.hr9
  have hV := hR.V
  refine j_aload_n F rfl dX3_statement_0 ?_
  refine t_callI F hT (ct_X3_isLit l G KS x M hY.1) (by decide) (by decide) (lw_V q1880 q1882 qs97 q110 q1883) pd_X3_isLit rfl (Nat.le_of_ble_eq_true rfl) (Nat.le_refl _) (Nat.le_refl _) dX3_statement_1 (fun v1 M1 h hv1 hT => ?_)
  obtain ⟨e1, q1⟩ := hv1
  subst q1
  have z1 := z01 e1
  refine j_if_eq F 12 (by decide) (by omega) dX3_statement_4 (fun c4 => ?_) (fun c4 => ?_)
  · skip
    have hil : ¬ isl M := fun z => by rw [if_pos (show hr M = 45 ∨ (48 ≤ hr M ∧ hr M ≤ 57) from z)] at e1; omega
    refine j_aload_n F rfl dX3_statement_12 ?_
    refine t_get F hT 24 (by decide) (v := vI (nuB M)) rfl q1510 dX3_statement_13 ?_
    refine j_istore_n F (by decide) dX3_statement_16 ?_
    refine j_aload_n F rfl dX3_statement_17 ?_
    refine t_callL F hT (ct_X3_word l G KS x (hrM M) hY9.1) (by decide) (by decide) (lw_V q1892 q1894 qs100 q110 q1895) pd_X3_word rfl (Nat.le_of_ble_eq_true rfl) (Nat.le_refl _) (Nat.le_refl _) dX3_statement_18 (fun v18 M18 h hv18 hT => ?_)
    obtain ⟨e18, q18⟩ := hv18
    rw [woV_hr] at e18
    have q18' : M18 = woM M := q18.trans (wo_hr M)
    subst e18 q18'
    refine j_lstore_n F (by decide) dX3_statement_21 ?_
    refine j_lload_n F rfl dX3_statement_22 ?_
    refine j_ldc2 F q1898 dX3_statement_23 ?_
    refine j_lcmp F _ (cm9_e _ _) dX3_statement_26 ?_
    refine j_if_ne F 37 (by decide) (by have := (cm9_0 (woV M) 151331).2; omega) dX3_statement_27 (fun c27 => ?_) (fun c27 => ?_)
    · skip
      have n1 : woV M ≠ 151331 := fun q => c27 ((cm9_0 _ _).1.mpr q)
      refine j_lload_n F rfl dX3_statement_37 ?_
      refine j_ldc2 F q1903 dX3_statement_38 ?_
      refine j_lcmp F _ (cm9_e _ _) dX3_statement_41 ?_
      refine j_if_ne F 52 (by decide) (by have := (cm9_0 (woV M) 24835928).2; omega) dX3_statement_42 (fun c42 => ?_) (fun c42 => ?_)
      · skip
        have n2 : woV M ≠ 24835928 := fun q => c42 ((cm9_0 _ _).1.mpr q)
        refine j_lload_n F rfl dX3_statement_52 ?_
        refine j_ldc2 F q1908 dX3_statement_53 ?_
        refine j_lcmp F _ (cm9_e _ _) dX3_statement_56 ?_
        refine j_if_ne F 67 (by decide) (by have := (cm9_0 (woV M) 8661767).2; omega) dX3_statement_57 (fun c57 => ?_) (fun c57 => ?_)
        · skip
          have n3 : woV M ≠ 8661767 := fun q => c57 ((cm9_0 _ _).1.mpr q)
          refine j_aload_n F rfl dX3_statement_67 ?_
          refine j_iconst F dX3_statement_68 ?_
          refine j_iload_n F rfl dX3_statement_69 ?_
          refine t_callV F hT (ct_X3_fails l G KS x (woM M) (k := 1) (w := nuB M) (by show rg (M 25 0); rw [hf0]; unfold rg; omega)) (by decide) (by decide) (lw_V q1832 q1834 qs91 q110 q1835) pd_X3_fails rfl (Nat.le_of_ble_eq_true rfl) (Nat.le_refl _) (Nat.le_refl _) dX3_statement_70 (fun M70 h hv70 hT => ?_)
          exact j_vret F E (Nat.zero_le _) (Nat.zero_le _) dX3_statement_73 (tv_post hT (by rw [hv70]; unfold stM; rw [cif_f hil, if_neg n1, if_neg n2, if_neg n3]))
        · skip
          have n3 : woV M = 8661767 := (cm9_0 _ _).1.mp c57
          refine j_aload_n F rfl dX3_statement_60 ?_
          refine t_callV F hT (ct_X3_phaseTold l G KS x (woM M) hR w1 hf0) (by decide) (by decide) (lw_V q1909 q1911 qs103 q110 q1912) pd_X3_phaseTold rfl (Nat.le_of_ble_eq_true rfl) (Nat.le_refl _) (Nat.le_refl _) dX3_statement_61 (fun M61 h hv61 hT => ?_)
          refine j_goto F 73 (by decide) dX3_statement_64 ?_
          exact j_vret F E (Nat.zero_le _) (Nat.zero_le _) dX3_statement_73 (tv_post hT (by rw [hv61]; unfold stM; rw [cif_f hil, if_neg n1, if_neg n2, if_pos n3]))
      · skip
        have n2 : woV M = 24835928 := (cm9_0 _ _).1.mp c42
        refine j_aload_n F rfl dX3_statement_45 ?_
        refine t_callV F hT (ct_X3_assumeTold l G KS x (woM M) hR w1 hf0) (by decide) (by decide) (lw_V q1904 q1906 qs102 q110 q1907) pd_X3_assumeTold rfl (Nat.le_of_ble_eq_true rfl) (Nat.le_refl _) (Nat.le_refl _) dX3_statement_46 (fun M46 h hv46 hT => ?_)
        refine j_goto F 73 (by decide) dX3_statement_49 ?_
        exact j_vret F E (Nat.zero_le _) (Nat.zero_le _) dX3_statement_73 (tv_post hT (by rw [hv46]; unfold stM; rw [cif_f hil, if_neg n1, if_pos n2]))
    · skip
      have n1 : woV M = 151331 := (cm9_0 _ _).1.mp c27
      refine j_aload_n F rfl dX3_statement_30 ?_
      refine t_callV F hT (ct_X3_growTold l G KS x (woM M) hV w1.1 w1.2.1) (by decide) (by decide) (lw_V q1899 q1901 qs101 q110 q1902) pd_X3_growTold rfl (Nat.le_of_ble_eq_true rfl) (Nat.le_refl _) (Nat.le_refl _) dX3_statement_31 (fun M31 h hv31 hT => ?_)
      refine j_goto F 73 (by decide) dX3_statement_34 ?_
      exact j_vret F E (Nat.zero_le _) (Nat.zero_le _) dX3_statement_73 (tv_post hT (by rw [hv31]; unfold stM; rw [cif_f hil, if_pos n1]))
  · skip
    have hil : isl M := Classical.byContradiction (fun z => by rw [if_neg (show ¬ (hr M = 45 ∨ (48 ≤ hr M ∧ hr M ≤ 57)) from z)] at e1; omega)
    refine j_aload_n F rfl dX3_statement_7 ?_
    refine t_callV F hT (ct_X3_clauseTold l G KS x (hrM M) hR hY9 hf0 ((isl_hr M).mpr hil)) (by decide) (by decide) (lw_V q1884 q1886 qs98 q110 q1887) pd_X3_clauseTold rfl (Nat.le_of_ble_eq_true rfl) (Nat.le_refl _) (Nat.le_refl _) dX3_statement_8 (fun M8 h hv8 hT => ?_)
    exact j_vret F E (Nat.zero_le _) (Nat.zero_le _) dX3_statement_11 (tv_post hT (by rw [hv8]; unfold stM; rw [cif_t hil]))

theorem pd_X3_tell : yX3_tell.cls = RX3 ∧ yX3_tell.cls ≠ "java/lang/invoke/MethodHandle" ∧ yX3_tell.cls ≠ "java/lang/invoke/VarHandle" ∧ (parseMethodDescriptor yX3_tell.desc).map (fun d => d.parameters.length) = some 0 := by decide +kernel
theorem ct_X3_tell (l : Launch) (G : Gt) (KS : Ks l G) (x : Nat) (M : Mt) (hR : RI (M 1)) (hX : TX M) : TI l G yX3_tell cX3_tell 3 (some FieldType.int) 7 x [] M (fun v M' => v = (tlM M).1 ∧ M' = (tlM M).2) := by
  intro h0 h hT
  refine ct_of KS (by decide) (Nat.le_of_ble_eq_true rfl) (fun X F E => ?_)
  refine j_lv (lv' := [(0, .ref x)]) ⟨rfl, trivial⟩ ?_
  have hYt := ts_Y hX
  have hRt : RI (tbM M 1) := hR
  refine j_aload_n F rfl dX3_tell_0 ?_
  refine j_iconst F dX3_tell_1 ?_
  refine t_put F hT 0 (by decide) rfl rfl rfl (by decide) q1486 dX3_tell_2 (fun h hT => ?_)
  refine j_aload_n F rfl dX3_tell_5 ?_
  refine t_callV F hT (ct_X3_startsText l G KS x _) (by decide) (by decide) (lw_V q1816 q1818 qs87 q110 q1819) pd_X3_startsText rfl (Nat.le_of_ble_eq_true rfl) (Nat.le_refl _) (Nat.le_refl _) dX3_tell_6 (fun M6 h hv6 hT => ?_)
  have e6 : M6 = tsM M := hv6
  subst e6
  refine j_iconst F dX3_tell_9 ?_
  refine j_istore_n F (by decide) dX3_tell_10 ?_
  have L11 : ∀ (m11 : Nat) (i : Int) (N : Mt) (h : Hp), (0 ≤ i ∧ i ≤ 13326 ∧ N = sM (tsM M) 2 (kpF (M 2) 0 i (M 1))) → (13326 - i).toNat < m11 → Tw G x N h0 h → J X h 11 [(0, .ref x), (1, vI i)] [] 0 0 := by
    intro m11
    induction m11 with
    | zero => intro i N h hI hm11 hT; exact absurd hm11 (Nat.not_lt_zero _)
    | succ m11 ih11 =>
      intro i N h hI hm11 hT
      obtain ⟨hI0, hI1, hI2⟩ := hI
      subst hI2
      refine j_iload_n F rfl dX3_tell_11 ?_
      refine j_sipush F (by decide) dX3_tell_12 ?_
      refine j_icmp_ge F 36 (by decide) (by omega) (by omega) dX3_tell_15 (fun c15 => ?_) (fun c15 => ?_)
      · skip
        refine j_iconst F dX3_tell_36 ?_
        refine j_istore_n F (by decide) dX3_tell_37 ?_
        have L38 : ∀ (m38 : Nat) (n : Nat) (N38 : Mt) (h : Hp), ((∀ k : Nat, k < n → gos (txN (tbM M) k)) ∧ N38 = (txN (tbM M) n)) → (if (txN (tbM M) n) 25 0 = 0 then (501 - (txN (tbM M) n) 24 0).toNat else 0) < m38 → Tw G x N38 h0 h → J X h 38 [(0, .ref x), (1, vI (n : Int))] [] 0 0 := by
          intro m38
          induction m38 with
          | zero => intro n N38 h hI hm38 hT; exact absurd hm38 (Nat.not_lt_zero _)
          | succ m38 ih38 =>
            intro n N38 h hI hm38 hT
            obtain ⟨hJ0, hJ1⟩ := hI
            subst hJ1
            obtain ⟨i1, i2, i3, i4⟩ := tx_o hRt hYt n hJ0
            have hfn := i2.2.2.2.2.1
            refine j_aload_n F rfl dX3_tell_38 ?_
            refine t_get F hT 25 (by decide) rfl q1511 dX3_tell_39 ?_
            refine j_if_ne F 63 (by decide) (by omega) dX3_tell_42 (fun c42 => ?_) (fun c42 => ?_)
            · skip
              have hst : ¬ gos (txN (tbM M) n) := fun q => c42 q.1
              have hnn : tnN (tbM M) = n := lea_at hst (fun k hk q => q (hJ0 k hk))
              refine j_aload_n F rfl dX3_tell_63 ?_
              refine t_get F hT 25 (by decide) (v := vI ((txN (tbM M) n) 25 0)) rfl q1511 dX3_tell_64 ?_
              refine j_if_ne F 72 (by decide) (by omega) dX3_tell_67 (fun c67 => ?_) (fun c67 => ?_)
              · skip
                refine j_iconst F dX3_tell_72 ?_
                refine j_istore_n F (by decide) dX3_tell_73 ?_
                have L74 : ∀ (m74 : Nat) (i : Int) (N74 : Mt) (h : Hp), (0 ≤ i ∧ i ≤ 13326 ∧ N74 = sM (txN (tbM M) n) 1 (kpF ((txN (tbM M) n) 1) 0 i ((txN (tbM M) n) 2))) → (13326 - i).toNat < m74 → Tw G x N74 h0 h → J X h 74 [(0, .ref x), (2, vI i)] [] 0 0 := by
                  intro m74
                  induction m74 with
                  | zero => intro i N74 h hI hm74 hT; exact absurd hm74 (Nat.not_lt_zero _)
                  | succ m74 ih74 =>
                    intro i N74 h hI hm74 hT
                    obtain ⟨hK0, hK1, hK2⟩ := hI
                    subst hK2
                    refine j_iload_n F rfl dX3_tell_74 ?_
                    refine j_sipush F (by decide) dX3_tell_75 ?_
                    refine j_icmp_ge F 99 (by decide) (by omega) (by omega) dX3_tell_78 (fun c78 => ?_) (fun c78 => ?_)
                    · skip
                      refine j_iconst F dX3_tell_99 ?_
                      exact j_iret F E (Nat.zero_le _) (Nat.zero_le _) dX3_tell_100 (ti_post hT (by unfold tlM; rw [hnn, if_neg c42]; exact ⟨rfl, by rw [show i = 13326 by omega]⟩))
                    · skip
                      refine j_aload_n F rfl dX3_tell_81 ?_
                      refine t_get F hT 1 (by decide) rfl q1487 dX3_tell_82 ?_
                      refine j_iload_n F rfl dX3_tell_85 ?_
                      refine j_aload_n F rfl dX3_tell_86 ?_
                      refine t_get F hT 2 (by decide) rfl q1488 dX3_tell_87 ?_
                      refine j_iload_n F rfl dX3_tell_90 ?_
                      refine t_ialdw F hT 2 tm_2 ((txN (tbM M) n) 2 i) rfl (by omega) dX3_tell_91 ?_
                      refine t_iast F hT 1 tm_1 rfl (by omega) dX3_tell_92 (fun h hT => ?_)
                      refine j_iinc F rfl (by decide) dX3_tell_93 ?_
                      refine j_goto F 74 (by decide) dX3_tell_96 ?_
                      refine j_lv (lv' := [(0, .ref x), (2, vI (i + 1))]) ⟨rfl, rfl, trivial⟩ ?_
                      exact ih74 (i + 1) _ _ ⟨by omega, by omega, by rw [oM_sM, kp0_s hK0 rfl]⟩ (by omega) hT
                refine j_lv (lv' := [(0, .ref x), (2, vI 0)]) ⟨rfl, rfl, trivial⟩ ?_
                exact L74 _ 0 _ _ ⟨by omega, by omega, by rw [kpF_0]; exact (sM_self (txN (tbM M) n) 1).symm⟩ (Nat.lt_succ_self _) hT
              · skip
                exact absurd c67 c42
            · skip
              refine j_aload_n F rfl dX3_tell_45 ?_
              refine t_callI F hT (ct_X3_here l G KS x _ i2) (by decide) (by decide) (lw_V q1820 q1822 qs88 q110 q1823) pd_X3_here rfl (Nat.le_of_ble_eq_true rfl) (Nat.le_refl _) (Nat.le_refl _) dX3_tell_46 (fun v46 M46 h hv46 hT => ?_)
              obtain ⟨e46, q46⟩ := hv46
              subst e46 q46
              have hg9 : -1 ≤ hr (txN (tbM M) n) ∧ hr (txN (tbM M) n) ≤ 255 := hrv_rg _ _ _
              refine j_iconst F dX3_tell_49 ?_
              refine j_icmp_eq F 63 (by decide) (by omega) (by omega) dX3_tell_50 (fun c50 => ?_) (fun c50 => ?_)
              · skip
                have hst : ¬ gos (txN (tbM M) n) := fun q => q.2 c50
                have hnn : tnN (tbM M) = n := lea_at hst (fun k hk q => q (hJ0 k hk))
                refine j_aload_n F rfl dX3_tell_63 ?_
                refine t_get F hT 25 (by decide) (v := vI ((txN (tbM M) n) 25 0)) rfl q1511 dX3_tell_64 ?_
                refine j_if_ne F 72 (by decide) (by omega) dX3_tell_67 (fun c67 => ?_) (fun c67 => ?_)
                · skip
                  exact absurd c42 c67
                · skip
                  refine j_iload_n F rfl dX3_tell_70 ?_
                  exact j_iret F E (Nat.zero_le _) (Nat.zero_le _) dX3_tell_71 (ti_post hT (by unfold tlM; rw [hnn, if_pos c42]; exact ⟨rfl, rfl⟩))
              · skip
                refine j_aload_n F rfl dX3_tell_53 ?_
                refine t_callV F hT (ct_X3_statement l G KS x _ i1 (i3 c42).1.hr9 c42) (by decide) (by decide) (lw_V q1876 q1878 qs96 q110 q1879) pd_X3_statement rfl (Nat.le_of_ble_eq_true rfl) (Nat.le_refl _) (Nat.le_refl _) dX3_tell_54 (fun M54 h hv54 hT => ?_)
                rw [st_hr] at hv54
                refine j_iinc F rfl (by decide) dX3_tell_57 ?_
                refine j_goto F 38 (by decide) dX3_tell_60 ?_
                refine j_lv (lv' := [(0, .ref x), (1, vI ((n + 1) : Int))]) ⟨rfl, rfl, trivial⟩ ?_
                exact ih38 (n + 1) _ _ ⟨fun k hk => by
                  by_cases e : k = n
                  · rw [e]; exact ⟨c42, c50⟩
                  · exact hJ0 k (by omega), hv54⟩ (by
                  rw [if_pos c42] at hm38
                  have hj := (i3 c42).1
                  obtain ⟨s1, s2, s3, s4, s5, s6, s7⟩ := st_o i1 hj c42
                  have h5 := hj.2.1
                  show (if stM (txN (tbM M) n) 25 0 = 0 then (501 - stM (txN (tbM M) n) 24 0).toNat else 0) < m38
                  split
                  · rename_i z
                    have := s7 z
                    omega
                  · omega) hT
        refine j_lv (lv' := [(0, .ref x), (1, vI (0 : Int))]) ⟨rfl, rfl, trivial⟩ ?_
        exact L38 _ 0 _ _ ⟨fun k hk => absurd hk (Nat.not_lt_zero _), by rw [show i = 13326 by omega]; rfl⟩ (Nat.lt_succ_self _) hT
      · skip
        refine j_aload_n F rfl dX3_tell_18 ?_
        refine t_get F hT 2 (by decide) rfl q1488 dX3_tell_19 ?_
        refine j_iload_n F rfl dX3_tell_22 ?_
        refine j_aload_n F rfl dX3_tell_23 ?_
        refine t_get F hT 1 (by decide) rfl q1487 dX3_tell_24 ?_
        refine j_iload_n F rfl dX3_tell_27 ?_
        refine t_ialdw F hT 1 tm_1 (M 1 i) rfl (by omega) dX3_tell_28 ?_
        refine t_iast F hT 2 tm_2 rfl (by omega) dX3_tell_29 (fun h hT => ?_)
        refine j_iinc F rfl (by decide) dX3_tell_30 ?_
        refine j_goto F 11 (by decide) dX3_tell_33 ?_
        refine j_lv (lv' := [(0, .ref x), (1, vI (i + 1))]) ⟨rfl, rfl, trivial⟩ ?_
        exact ih11 (i + 1) _ _ ⟨by omega, by omega, by rw [oM_sM, kp0_s hI0 rfl]⟩ (by omega) hT
  refine j_lv (lv' := [(0, .ref x), (1, vI 0)]) ⟨rfl, rfl, trivial⟩ ?_
  exact L11 _ 0 _ _ ⟨by omega, by omega, by rw [kpF_0]; exact (sM_self (tsM M) 2).symm⟩ (Nat.lt_succ_self _) hT
