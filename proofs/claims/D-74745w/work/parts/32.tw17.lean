theorem Ct.mono {l : Launch} {G : Gt} {y : MethodName} {cc : ByteArray} {nL : Nat} {ret : Option FieldType} {fr lo mc ms : Nat} {av : List Value} {h : Hp} {post post2 : Option Value → Hp → Prop} (hM : Ct l G y cc nL ret fr lo mc ms av h post) (hi : ∀ r h', post r h' → post2 r h') : Ct l G y cc nL ret fr lo mc ms av h post2 := by
  unfold Ct Met at hM ⊢
  refine MetFree.mono hM (fun _ _ h => h) (fun _ _ _ _ _ h => h) ?_
  rintro a st o t - ⟨⟨r, h', e, hp, hS⟩, L⟩
  exact ⟨⟨r, h', e, hi r h' hp, hS⟩, L⟩
/-- entries of numbers other than the first don't count -/
theorem Tw.ext {G : Gt} {x : Nat} {M M2 : Mt} {h0 h : Hp} (hT : Tw G x M h0 h) (h1 : ∀ q : Nat, M2 q 0 = M q 0) (h2 : ∀ e ∈ twT, M2 e.1 = M e.1) : Tw G x M2 h0 h := by
  refine ⟨?_, fun k j N c hm => ?_, hT.2.2⟩
  · have e : tfs x M2 = tfs x M := by unfold tfs; simp only [h1]
    rw [e]
    exact hT.1
  · rw [show M2 k = M k from h2 _ hm]
    exact hT.2.1 k j N c hm
theorem TI.ext {l : Launch} {G : Gt} {y : MethodName} {cc : ByteArray} {nL : Nat} {ret : Option FieldType} {L : Nat} {x : Nat} {As : List Value} {M : Mt} {P Q : Int → Mt → Prop} (hM : TI l G y cc nL ret L x As M P) (hi : ∀ (v : Int) (M' : Mt), P v M' → ∃ M2 : Mt, Q v M2 ∧ (∀ q : Nat, M2 q 0 = M' q 0) ∧ ∀ e ∈ twT, M2 e.1 = M' e.1) : TI l G y cc nL ret L x As M Q := fun h0 h hT => by
  refine Ct.mono (hM h0 h hT) ?_
  rintro r h' ⟨v, e, M', hp, hT'⟩
  obtain ⟨M2, hq, h1, h2⟩ := hi v M' hp
  exact ⟨v, e, M2, hq, hT'.ext h1 h2⟩
/-- what a literal's reading leaves -/
def liM (M : Mt) (u fu : Int) : Mt := if liF M u fu = 0 then oM (oM M 24 0 (liE M)) 26 (liV M) 1 else oM (oM M 24 0 (liE M)) 25 0 (liF M u fu)
theorem ct_X3_litE (l : Launch) (G : Gt) (KS : Ks l G) (x : Nat) (M : Mt) {u fu : Int} (hu : u = 0 ∨ u = 1) (hfu : fu = 0 ∨ fu = 1) (hV : 0 ≤ M 1 0 ∧ M 1 0 ≤ 30) (hX : TX M) (hp : M 24 0 ≤ 500) (hf0 : M 25 0 = 0) : TI l G yX3_lit cX3_lit 6 (some FieldType.int) 4 x [vI u, vI fu] M (fun v M' => (v = if liF M u fu = 0 then liL M else 0) ∧ M' = liM M u fu) := by
  refine (ct_X3_lit l G KS x M hu hfu hV hX hp hf0).ext (fun v M' hP => ?_)
  obtain ⟨h1, h2, h3, h4, h5⟩ := hP
  by_cases e : liF M u fu = 0
  · obtain ⟨q1, q2⟩ := h5 e
    refine ⟨liM M u fu, ⟨by rw [if_pos e]; exact q1, rfl⟩, ?_, ?_⟩
    · intro q
      unfold liM
      rw [if_pos e]
      by_cases e6 : q = 26
      · subst e6; rw [oM_s, q2]; rfl
      rw [oM_n _ _ _ e6]
      by_cases e4 : q = 24
      · subst e4; rw [oM_s, h3]; rfl
      rw [oM_n _ _ _ e4]
      by_cases e5 : q = 25
      · subst e5; rw [h1, e, hf0]
      rw [h2 q e4 e5 e6]
    · intro p hm
      have hne : p.1 ≠ 24 ∧ p.1 ≠ 25 := by
        have : ∀ e ∈ twT, e.1 ≠ 24 ∧ e.1 ≠ 25 := by decide +kernel
        exact this _ hm
      unfold liM
      rw [if_pos e]
      by_cases e6 : p.1 = 26
      · rw [e6, oM_s, q2]; rfl
      rw [oM_n _ _ _ e6, oM_n _ _ _ hne.1, h2 _ hne.1 hne.2 e6]
  · obtain ⟨q1, q2⟩ := h4 e
    refine ⟨liM M u fu, ⟨by rw [if_neg e]; exact q1, rfl⟩, ?_, ?_⟩
    · intro q
      unfold liM
      rw [if_neg e]
      by_cases e5 : q = 25
      · subst e5; rw [oM_s, h1]; rfl
      rw [oM_n _ _ _ e5]
      by_cases e4 : q = 24
      · subst e4; rw [oM_s, h3]; rfl
      rw [oM_n _ _ _ e4]
      by_cases e6 : q = 26
      · subst e6; rw [q2]
      rw [h2 q e4 e5 e6]
    · intro p hm
      have hne : p.1 ≠ 24 ∧ p.1 ≠ 25 := by
        have : ∀ e ∈ twT, e.1 ≠ 24 ∧ e.1 ≠ 25 := by decide +kernel
        exact this _ hm
      unfold liM
      rw [if_neg e, oM_n _ _ _ hne.2, oM_n _ _ _ hne.1]
      by_cases e6 : p.1 = 26
      · rw [e6, q2]
      rw [h2 _ hne.1 hne.2 e6]
theorem liQ_hr (M : Mt) : liQ (hrM M) = liQ M := by unfold liQ; rw [nuB_hr, hr_hr]
theorem liB_hr (M : Mt) : liB (hrM M) = liB M := by
  show sk (M 21) (M 23 0) (liQ (hrM M)) = _
  rw [liQ_hr]; rfl
theorem liE_hr (M : Mt) : liE (hrM M) = liE M := by
  show dg (M 21) (M 23 0) (liB (hrM M)) = _
  rw [liB_hr]; rfl
theorem liV_hr (M : Mt) : liV (hrM M) = liV M := by
  show nvF (M 21) (liB (hrM M)) (liE (hrM M) - liB (hrM M)).toNat = _
  rw [liB_hr, liE_hr]; rfl
theorem liF_hr (M : Mt) (u fu : Int) : liF (hrM M) u fu = liF M u fu := by
  have h0 : liF0 (hrM M) fu = liF0 M fu := by unfold liF0; rw [hr_hr, nuB_hr]
  have h1 : liF1 (hrM M) fu = liF1 M fu := by unfold liF1; rw [h0, liE_hr, liB_hr]
  have h2 : liF2 (hrM M) u fu = liF2 M u fu := by
    unfold liF2
    rw [h1, liV_hr, liB_hr]
    rfl
  unfold liF
  rw [h2, liB_hr]
theorem liL_hr (M : Mt) : liL (hrM M) = liL M := by unfold liL; rw [hr_hr, liV_hr]
theorem liM_hr (M : Mt) (u fu : Int) : liM (hrM M) u fu = liM M u fu := by
  unfold liM
  rw [liF_hr, liE_hr, liV_hr]
  unfold hrM
  rw [oM_oM]
theorem es_hr {M : Mt} (h : M 25 0 = 0) : esM (hrM M) = esM M := by
  unfold esM
  rw [hr_hr, nuB_hr, hrM_hrM, if_pos (show hrM M 25 0 = 0 from h), if_pos h]
  split
  · unfold hrM
    rw [oM_oM]
  · rfl
/-- ranges of a text, its place within it while nothing is wrong -/
def TY (M : Mt) : Prop := TX M ∧ M 24 0 ≤ 500 ∧ (M 25 0 = 0 → M 24 0 ≤ M 23 0)
theorem hr_lt {M : Mt} (h : hr M ≠ -1) : nuB M < M 23 0 := by
  unfold hr hrv at h
  split at h
  · assumption
  · exact absurd rfl h
theorem TX.li {M : Mt} (hX : TX M) (hp : M 24 0 ≤ 500) (u fu : Int) : (M 24 0 ≤ nuB M ∧ nuB M ≤ 500) ∧ (nuB M ≤ liQ M ∧ liQ M ≤ 501) ∧ (liQ M ≤ liB M ∧ liB M ≤ 501) ∧ (liB M ≤ liE M ∧ liE M ≤ 501) ∧ (0 ≤ liV M ∧ liV M ≤ 99) ∧ (0 ≤ liF M u fu ∧ liF M u fu ≤ 5000) := by
  obtain ⟨hX1, hX2, hX3, hX4, hX5, hX6⟩ := hX
  have hB0 : M 24 0 ≤ nuB M ∧ nuB M ≤ 500 := ⟨(sk_rg _ _ _).1, sk_le (by omega) hp⟩
  have hQ : nuB M ≤ liQ M ∧ liQ M ≤ 501 := by unfold liQ; split <;> omega
  have hB1 : liQ M ≤ liB M ∧ liB M ≤ 501 := ⟨(sk_rg _ _ _).1, sk_le (by omega) (by omega)⟩
  have hE1 : liB M ≤ liE M ∧ liE M ≤ 501 := ⟨(dg_rg _ _ _).1, dg_le (by omega) (by omega)⟩
  have hV1 : 0 ≤ liV M ∧ liV M ≤ 99 := nv_rg _ _ _
  have hFa : 0 ≤ liF0 M fu ∧ liF0 M fu ≤ 5000 := by unfold liF0; split <;> omega
  have hFb : 0 ≤ liF1 M fu ∧ liF1 M fu ≤ 5000 := by unfold liF1; (repeat' split) <;> omega
  have hFc : 0 ≤ liF2 M u fu ∧ liF2 M u fu ≤ 5000 := by unfold liF2; (repeat' split) <;> omega
  have hFd : 0 ≤ liF M u fu ∧ liF M u fu ≤ 5000 := by unfold liF; (repeat' split) <;> omega
  exact ⟨hB0, hQ, hB1, hE1, hV1, hFd⟩
theorem TX.le9 {M : Mt} (hX : TX M) (hp : M 24 0 ≤ M 23 0) : nuB M ≤ M 23 0 ∧ liE M ≤ M 23 0 := by
  obtain ⟨hX1, hX2, hX3, hX4, hX5, hX6⟩ := hX
  have hB0 : nuB M ≤ M 23 0 := sk_le (by omega) hp
  have hQ : liQ M ≤ M 23 0 := by
    unfold liQ
    split
    · have := hr_lt (M := M) (by omega)
      omega
    · omega
  have hB1 : liB M ≤ M 23 0 := sk_le (by omega) hQ
  exact ⟨hB0, dg_le (by omega) hB1⟩
theorem liF_0 {M : Mt} {u fu : Int} (h : liF M u fu = 0) : fu ≠ 1 ∧ (1 ≤ liV M ∧ liV M ≤ M 1 0) ∧ ¬ (u = 1 ∧ M 26 (liV M) = 1) ∧ (1 ≤ liE M - liB M ∧ liE M - liB M ≤ 2) := by
  unfold liF at h
  split at h
  · omega
  rename_i q
  have q' : liF2 M u fu = 0 := by omega
  split at h
  · exfalso
    unfold liF2 at q'
    split at q'
    · omega
    rename_i q2
    have q1 : liF1 M fu = 0 := by omega
    unfold liF1 at q1
    split at q1
    · omega
    split at q1
    · rename_i r1 r2 r3
      -- liB is at least 0 is not known here: the fault's number 3 + 8 * b is never 0
      omega
    · omega
  rename_i qf
  refine ⟨qf, ?_⟩
  unfold liF2 at q'
  split at q'
  · omega
  rename_i q2
  have q1 : liF1 M fu = 0 := by omega
  split at q'
  · exfalso; omega
  rename_i q3
  have e9 : 1 ≤ liE M - liB M ∧ liE M - liB M ≤ 2 := by
    unfold liF1 at q1
    split at q1
    · omega
    split at q1
    · assumption
    · omega
  exact ⟨by omega, by omega, e9⟩
theorem TY.li {M : Mt} (hY : TY M) (h0 : M 25 0 = 0) (u fu : Int) (hV : 0 ≤ M 1 0 ∧ M 1 0 ≤ 30) : TY (liM M u fu) := by
  obtain ⟨hX, hp, hl⟩ := hY
  have hr := hX.li hp u fu
  have hE := hX.le9 (hl h0)
  have h23 := hX.2.2.1
  obtain ⟨hX1, hX2, hX3, hX4, hX5, hX6⟩ := hX
  unfold liM
  split
  · rename_i q
    have z := liF_0 q
    refine ⟨⟨hX1, hX2, hX3, ?_, hX5, ?_⟩, ?_, fun _ => ?_⟩
    · show 0 ≤ liE M ∧ liE M ≤ 1000
      omega
    · exact b01_o hX6 _
    · show liE M ≤ 500
      omega
    · show liE M ≤ M 23 0
      omega
  · rename_i q
    refine ⟨⟨hX1, hX2, hX3, ?_, ?_, hX6⟩, ?_, fun q2 => ?_⟩
    · show 0 ≤ liE M ∧ liE M ≤ 1000
      omega
    · show 0 ≤ liF M u fu ∧ liF M u fu ≤ 100000
      omega
    · show liE M ≤ 500
      omega
    · exact absurd q2 q
theorem TY.hr9 {M : Mt} (hY : TY M) : TY (hrM M) := by
  obtain ⟨hX, hp, hl⟩ := hY
  have h23 := hX.2.2.1
  refine ⟨hX.hr, ?_, fun h0 => ?_⟩
  · show nuB M ≤ 500
    exact sk_le (by omega) hp
  · exact (hX.le9 (hl h0)).1
/-- the least of all with p -/
noncomputable def lea (p : Nat → Prop) : Nat := Classical.epsilon (fun n => p n ∧ ∀ k : Nat, k < n → ¬ p k)
theorem lea_at {p : Nat → Prop} {n : Nat} (h : p n) (h2 : ∀ k : Nat, k < n → ¬ p k) : lea p = n := by
  have hex : ∃ n : Nat, p n ∧ ∀ k : Nat, k < n → ¬ p k := ⟨n, h, h2⟩
  obtain ⟨q1, q2⟩ := Classical.epsilon_spec hex
  unfold lea
  generalize Classical.epsilon (fun n => p n ∧ ∀ k : Nat, k < n → ¬ p k) = w at q1 q2
  rcases Nat.lt_trichotomy w n with e | e | e
  · exact absurd q1 (h2 w e)
  · exact e
  · exact absurd h (q2 n e)
/-- a literal is at hand -/
def isl (M : Mt) : Prop := hr M = 45 ∨ (48 ≤ hr M ∧ hr M ≤ 57)
theorem isl_hr (M : Mt) : isl (hrM M) ↔ isl M := by unfold isl; rw [hr_hr]
def go9 (M : Mt) : Prop := M 25 0 = 0 ∧ isl M
/-- one literal more, noted at n -/
def stp (b : Int) (n : Nat) (M : Mt) : Mt := if liF M 1 b = 0 then oM (liM M 1 b) 27 n (liL M) else liM M 1 b
theorem stp_hr (b : Int) (n : Nat) (M : Mt) : stp b n (hrM M) = stp b n M := by unfold stp; rw [liF_hr, liM_hr, liL_hr]
def rlN (fu : Nat → Int) (M : Mt) : Nat → Mt
  | 0 => M
  | n + 1 => stp (fu n) n (rlN fu M n)
theorem stp_x (b : Int) (n : Nat) (M : Mt) {q : Nat} (h4 : q ≠ 24) (h5 : q ≠ 25) (h6 : q ≠ 26) (h7 : q ≠ 27) : stp b n M q = M q := by
  unfold stp liM
  split
  · rw [oM_n _ _ _ h7, oM_n _ _ _ h6, oM_n _ _ _ h4]
  · rw [oM_n _ _ _ h5, oM_n _ _ _ h4]
theorem stp_25 (b : Int) (n : Nat) {M : Mt} (h : M 25 0 = 0) : stp b n M 25 0 = liF M 1 b := by
  unfold stp
  by_cases e : liF M 1 b = 0
  · rw [if_pos e, e]
    unfold liM
    rw [if_pos e]
    exact h
  · rw [if_neg e]
    unfold liM
    rw [if_neg e]
    rfl
theorem stp_24 (b : Int) (n : Nat) (M : Mt) : stp b n M 24 0 = liE M := by
  unfold stp liM
  (repeat' split) <;> first | rfl | contradiction
theorem rlN_x (fu : Nat → Int) (M : Mt) {q : Nat} (h4 : q ≠ 24) (h5 : q ≠ 25) (h6 : q ≠ 26) (h7 : q ≠ 27) : ∀ n : Nat, rlN fu M n q = M q
  | 0 => rfl
  | n + 1 => by rw [rlN, stp_x _ _ _ h4 h5 h6 h7]; exact rlN_x fu M h4 h5 h6 h7 n
theorem TY.stp9 {M : Mt} (hY : TY M) (h0 : M 25 0 = 0) (b : Int) (n : Nat) (hV : 0 ≤ M 1 0 ∧ M 1 0 ≤ 30) : TY (stp b n M) := by
  have h := hY.li h0 1 b hV
  unfold stp
  split
  · exact h
  · exact h
theorem TY.rd {fu : Nat → Int} {M : Mt} (hY : TY M) (hV : 0 ≤ M 1 0 ∧ M 1 0 ≤ 30) : ∀ n : Nat, (∀ k : Nat, k < n → rlN fu M k 25 0 = 0) → TY (rlN fu M n)
  | 0, _ => hY
  | n + 1, h => TY.stp9 (TY.rd hY hV n (fun k hk => h k (by omega))) (h n (by omega)) _ _ (by rw [rlN_x fu M (q := 1) (by decide) (by decide) (by decide) (by decide)]; exact hV)
/-- literals read so far are of variables unlike -/
theorem rd_lits {fu : Nat → Int} {M : Mt} : ∀ n : Nat, (∀ k : Nat, k ≤ n → rlN fu M k 25 0 = 0) → (∀ i : Nat, i < n → lok (M 1 0) (rlN fu M n 27 i) ∧ rlN fu M n 26 (iab (rlN fu M n 27 i)) = 1) ∧ ∀ i j : Nat, i < n → j < n → iab (rlN fu M n 27 i) = iab (rlN fu M n 27 j) → i = j
  | 0, _ => ⟨fun i hi => by omega, fun i j hi => by omega⟩
  | n + 1, h => by
    obtain ⟨h1, h2⟩ := rd_lits n (fun k hk => h k (by omega))
    have hn := h n (by omega)
    have hn1 := h (n + 1) (Nat.le_refl _)
    have e1 := rlN_x fu M (q := 1) (by decide) (by decide) (by decide) (by decide) n
    rw [rlN, stp_25 _ _ hn] at hn1
    generalize hN : rlN fu M n = N at h1 h2 hn hn1 e1
    have z := liF_0 hn1
    have eN : rlN fu M (n + 1) = oM (oM (oM N 24 0 (liE N)) 26 (liV N) 1) 27 n (liL N) := by
      rw [rlN, hN]
      unfold stp liM
      rw [if_pos hn1, if_pos hn1]
    have e7 : ∀ i : Nat, rlN fu M (n + 1) 27 i = if i = n then liL N else N 27 i := fun i => by
      rw [eN, oM_s]
      unfold oI
      by_cases e : i = n
      · rw [if_pos e, if_pos (by omega)]
      · rw [if_neg e, if_neg (by omega)]; rfl
    have e6 : rlN fu M (n + 1) 26 = oI (N 26) (liV N) 1 := by rw [eN]; rfl
    have hL : iab (liL N) = liV N := by
      unfold liL iab
      (repeat' split) <;> omega
    have hlk : lok (M 1 0) (liL N) := by
      rw [← e1]
      unfold lok liL
      split <;> omega
    refine ⟨?_, ?_⟩
    · intro i hi
      rw [e7, e6]
      by_cases e : i = n
      · rw [if_pos e, hL, oI_s]
        exact ⟨hlk, rfl⟩
      · rw [if_neg e]
        obtain ⟨a, b⟩ := h1 i (by omega)
        refine ⟨a, ?_⟩
        unfold oI
        split
        · rfl
        · exact b
    · intro i j hi hj
      rw [e7, e7]
      by_cases e : i = n
      · by_cases f : j = n
        · intro _; omega
        · rw [if_pos e, if_neg f, hL]
          intro q
          have b := (h1 j (by omega)).2
          rw [← q] at b
          exact absurd ⟨rfl, b⟩ z.2.2.1
      · by_cases f : j = n
        · rw [if_neg e, if_pos f, hL]
          intro q
          have b := (h1 i (by omega)).2
          rw [q] at b
          exact absurd ⟨rfl, b⟩ z.2.2.1
        · rw [if_neg e, if_neg f]
          exact h2 i j (by omega) (by omega)
theorem es_q (M : Mt) {q : Nat} (h4 : q ≠ 24) (h5 : q ≠ 25) : esM M q = M q := by
  have hx : xsm M (flM (hrM M) 1 (nuB M)) := xsm_fl (fun q q1 q2 => oM_n _ _ _ q1) _ _
  unfold esM
  (repeat' split)
  · exact oM_n _ _ _ h4
  · rw [oM_n _ _ _ h4]; exact hx q h4 h5
  · exact oM_n _ _ _ h4
theorem es_25 {M : Mt} (h : esM M 25 0 = 0) : M 25 0 = 0 := by
  by_cases e : M 25 0 = 0
  · exact e
  · unfold esM at h
    rw [if_neg e] at h
    exact h
theorem TY.es {M : Mt} (hY : TY M) : TX (esM M) ∧ 0 ≤ esM M 24 0 ∧ esM M 24 0 ≤ 501 ∧ (esM M 25 0 = 0 → M 24 0 < esM M 24 0 ∧ esM M 24 0 ≤ M 23 0 ∧ M 25 0 = 0 ∧ hr M = 59) := by
  obtain ⟨hX, hp, hl⟩ := hY
  have h4 := hX.2.2.2.1
  have h3 := hX.2.2.1
  have hB : M 24 0 ≤ nuB M ∧ nuB M ≤ 500 := ⟨(sk_rg _ _ _).1, sk_le (by omega) hp⟩
  unfold esM
  split
  · rename_i q
    split
    · rename_i q2
      have := hr_lt (M := M) (by omega)
      refine ⟨hX.at (by omega), ?_, ?_, fun _ => ⟨?_, ?_, q, q2⟩⟩
      · show 0 ≤ nuB M + 1
        omega
      · show nuB M + 1 ≤ 501
        omega
      · show M 24 0 < nuB M + 1
        omega
      · show nuB M + 1 ≤ M 23 0
        omega
    · refine ⟨(hX.hr.fl (by omega) (by omega)).at (by omega), ?_, ?_, fun z => ?_⟩
      · show 0 ≤ nuB M + 1
        omega
      · show nuB M + 1 ≤ 501
        omega
      · have z' : flM (hrM M) 1 (nuB M) 25 0 = 0 := z
        rw [fl_25, if_pos (show hrM M 25 0 = 0 from q)] at z'
        omega
  · rename_i q
    refine ⟨hX.at (by omega), ?_, ?_, fun z => absurd z q⟩
    · show 0 ≤ M 24 0 + 1
      omega
    · show M 24 0 + 1 ≤ 501
      omega
/-- a clause is full, or the text's clause -/
def fuC (M : Mt) : Nat → Int := fun k => if ¬ (M 1 2 < 80 ∧ M 1 1 < 400) ∨ k = 8 then 1 else 0
def fuA : Nat → Int := fun k => if k = 8 then 1 else 0
noncomputable def rnN (fu : Nat → Int) (M : Mt) : Nat := lea (fun n => ¬ go9 (rlN fu M n))
theorem rn_at {fu : Nat → Int} {M : Mt} {n : Nat} (h1 : ∀ k : Nat, k < n → go9 (rlN fu M k)) (h2 : ¬ go9 (rlN fu M n)) : rnN fu M = n := lea_at h2 (fun k hk q => q (h1 k hk))
def ceM (E : Mt) (n : Nat) : Mt := if E 25 0 = 0 then sM E 1 (putL (bgR (E 1) 0 n) (E 1 1) n (E 27)) else E
noncomputable def ctM (M : Mt) : Mt := ceM (esM (rlN (fuC M) (clM M) (rnN (fuC M) (clM M)))) (rnN (fuC M) (clM M))
/-- assumptions are told -/
def asR (R : Int → Int) (n : Int) (g : Int → Int) : Int → Int := fun j => if 16 ≤ j ∧ j < 16 + n then g (j - 16) else R j
theorem asR_0 (R : Int → Int) (g : Int → Int) : asR R 0 g = R := funext fun j => if_neg (by omega)
theorem asR_s {R : Int → Int} {i w : Int} {g : Int → Int} (hi : 0 ≤ i) (hw : w = g i) : oI (asR R i g) (16 + i) w = asR R (i + 1) g := by
  funext j
  unfold oI asR
  by_cases e : j = 16 + i
  · rw [if_pos e, if_pos (by omega), hw, show j - 16 = i by omega]
  · rw [if_neg e]
    by_cases e2 : 16 ≤ j ∧ j < 16 + i
    · rw [if_pos e2, if_pos (show 16 ≤ j ∧ j < 16 + (i + 1) by omega)]
    · rw [if_neg e2, if_neg (by omega)]
def aeM (E : Mt) (n : Nat) : Mt := if E 25 0 = 0 then sM E 1 (asR (oI (E 1) 3 n) n (E 27)) else E
noncomputable def atM (M : Mt) : Mt := aeM (esM (rlN fuA (clM M) (rnN fuA (clM M)))) (rnN fuA (clM M))
theorem rd_8 {fu : Nat → Int} {M : Mt} (h8 : fu 8 = 1) : ∀ {n : Nat}, (∀ k : Nat, k < n → rlN fu M k 25 0 = 0) → rlN fu M n 25 0 = 0 → n ≤ 8 := by
  intro n h1 h2
  by_cases e : n ≤ 8
  · exact e
  · exfalso
    have h9 : rlN fu M 9 25 0 = 0 := by
      by_cases e9 : n = 9
      · rw [← e9]; exact h2
      · exact h1 9 (by omega)
    rw [rlN, stp_25 _ _ (h1 8 (by omega)), h8] at h9
    exact (liF_0 h9).1 rfl
theorem TY.cl {M : Mt} (h : TY M) : TY (clM M) := by
  obtain ⟨⟨h1, h2, h3, h4, h5, h6⟩, h7, h8⟩ := h
  refine ⟨⟨h1, h2, h3, h4, h5, ?_⟩, h7, h8⟩
  intro v v0 v1
  show (if 0 ≤ v ∧ v < 31 then 0 else M 26 v) = 0 ∨ (if 0 ≤ v ∧ v < 31 then 0 else M 26 v) = 1
  rw [if_pos (by omega)]
  exact Or.inl rfl
theorem isl_cl (M : Mt) : isl (clM M) ↔ isl M := Iff.rfl
theorem li_25 {M : Mt} {u b : Int} (h : M 25 0 = 0) : liM M u b 25 0 = liF M u b := by
  unfold liM
  split
  · rename_i e
    rw [e]; exact h
  · rfl
theorem pd_X3_clauseTold : yX3_clauseTold.cls = RX3 ∧ yX3_clauseTold.cls ≠ "java/lang/invoke/MethodHandle" ∧ yX3_clauseTold.cls ≠ "java/lang/invoke/VarHandle" ∧ (parseMethodDescriptor yX3_clauseTold.desc).map (fun d => d.parameters.length) = some 0 := by decide +kernel
theorem ct_X3_clauseTold (l : Launch) (G : Gt) (KS : Ks l G) (x : Nat) (M : Mt) (hR : RI (M 1)) (hY : TY M) (hf0 : M 25 0 = 0) (hi : isl M) : TV l G yX3_clauseTold cX3_clauseTold 5 5 x [] M (fun M' => M' = ctM M) := by
  intro h0 h hT
  refine ct_of KS (by decide) (Nat.le_of_ble_eq_true rfl) (fun X F E => ?_)
  refine j_lv (lv' := [(0, .ref x)]) ⟨rfl, trivial⟩ ?_
  have hVc := hR.V
  have hmy := hR.many
  have hYc := hY.cl
  refine j_aload_n F rfl dX3_clauseTold_0 ?_
  refine t_callV F hT (ct_X3_clearsTold l G KS x M) (by decide) (by decide) (lw_V q1824 q1826 qs89 q110 q1827) pd_X3_clearsTold rfl (Nat.le_of_ble_eq_true rfl) (Nat.le_refl _) (Nat.le_refl _) dX3_clauseTold_1 (fun M1 h hv1 hT => ?_)
  subst hv1
  refine j_joinT (x := x) (M := clM M) (G := G) (h0 := h0) 16 (fun w => w = if M 1 2 < 80 ∧ M 1 1 < 400 then 0 else 1) (fun w h hw hT => ?_) (fun Kj4 => ?_)
  · skip
    refine j_istore_n F (by decide) dX3_clauseTold_16 ?_
    refine j_iconst F dX3_clauseTold_17 ?_
    refine j_istore_n F (by decide) dX3_clauseTold_18 ?_
    have L19 : ∀ (m19 : Nat) (n : Nat) (N : Mt) (h : Hp), (n ≤ 9 ∧ (∀ k : Nat, k < n → go9 (rlN (fuC M) (clM M) k)) ∧ N = rlN (fuC M) (clM M) n) → (9 - n) < m19 → Tw G x N h0 h → J X h 19 [(0, .ref x), (1, vI w), (2, vI (n : Int))] [] 0 0 := by
      intro m19
      induction m19 with
      | zero => intro n N h hI hm19 hT; exact absurd hm19 (Nat.not_lt_zero _)
      | succ m19 ih19 =>
        intro n N h hI hm19 hT
        obtain ⟨hI0, hI1, hI2⟩ := hI
        have hgk : ∀ k : Nat, k < n → rlN (fuC M) (clM M) k 25 0 = 0 := fun k hk => (hI1 k hk).1
        have hYn : TY (rlN (fuC M) (clM M) n) := hYc.rd hVc n hgk
        have e1n : rlN (fuC M) (clM M) n 1 = M 1 := rlN_x _ _ (by decide) (by decide) (by decide) (by decide) n
        have hVn : 0 ≤ rlN (fuC M) (clM M) n 1 0 ∧ rlN (fuC M) (clM M) n 1 0 ≤ 30 := by rw [e1n]; exact hVc
        have hXn := hYn.1
        have hfn := hXn.2.2.2.2.1
        have h8 : (fuC M) 8 = 1 := if_pos (Or.inr rfl)
        subst hI2
        refine j_aload_n F rfl dX3_clauseTold_19 ?_
        refine t_get F hT 25 (by decide) rfl q1511 dX3_clauseTold_20 ?_
        refine j_if_ne F 78 (by decide) (by omega) dX3_clauseTold_23 (fun c23 => ?_) (fun c23 => ?_)
        · skip
          have hst : ¬ go9 (rlN (fuC M) (clM M) n) := fun q => c23 q.1
          have hnn := rn_at hI1 hst
          refine j_aload_n F rfl dX3_clauseTold_78 ?_
          refine t_callV F hT (ct_X3_endsStatement l G KS x _ hXn) (by decide) (by decide) (lw_V q1888 q1890 qs99 q110 q1891) pd_X3_endsStatement rfl (Nat.le_of_ble_eq_true rfl) (Nat.le_refl _) (Nat.le_refl _) dX3_clauseTold_79 (fun M79 h hv79 hT => ?_)
          subst hv79
          have hES := hYn.es
          have hEf := hES.1.2.2.2.2.1
          have e1E : (esM (rlN (fuC M) (clM M) n)) 1 = M 1 := (es_q _ (by decide) (by decide)).trans e1n
          refine j_aload_n F rfl dX3_clauseTold_82 ?_
          refine t_get F hT 25 (by decide) rfl q1511 dX3_clauseTold_83 ?_
          refine j_if_eq F 90 (by decide) (by omega) dX3_clauseTold_86 (fun c86 => ?_) (fun c86 => ?_)
          · skip
            exact absurd (es_25 c86) c23
          · skip
            exact j_vret F E (Nat.zero_le _) (Nat.zero_le _) dX3_clauseTold_89 (tv_post hT (by unfold ctM; rw [hnn]; unfold ceM; rw [if_neg c86]))
        · skip
          have hn8' := rd_8 (fu := (fuC M)) (M := clM M) h8 hgk c23
          refine j_iload_n F rfl dX3_clauseTold_26 ?_
          refine j_if_eq F 37 (by decide) (by omega) dX3_clauseTold_27 (fun c27 => ?_) (fun c27 => ?_)
          · skip
            have hn0 : n = 0 := by omega
            have hgo : go9 (rlN (fuC M) (clM M) n) := ⟨c23, by rw [hn0]; exact hi⟩
            refine j_aload_n F rfl dX3_clauseTold_37 ?_
            refine j_iconst F dX3_clauseTold_38 ?_
            refine j_joinT (x := x) (M := (rlN (fuC M) (clM M) n)) (G := G) (h0 := h0) 54 (fun b => b = (fuC M) n) (fun b h hb hT => ?_) (fun Kj39 => ?_)
            · skip
              have hb01 : b = 0 ∨ b = 1 := by rw [hb]; unfold fuC; split <;> omega
              refine t_callI F hT (ct_X3_litE l G KS x _ (u := 1) (fu := b) (Or.inr rfl) hb01 hVn hXn hYn.2.1 c23) (by decide) (by decide) (lw_V q1828 q1830 qs90 q110 q1831) pd_X3_lit rfl (Nat.le_of_ble_eq_true rfl) (Nat.le_refl _) (Nat.le_refl _) dX3_clauseTold_54 (fun v54 M54 h hv54 hT => ?_)
              obtain ⟨e54, q54⟩ := hv54
              subst q54
              have e25 := li_25 (u := 1) (b := b) c23
              have hlr := hXn.li hYn.2.1 1 b
              refine j_istore_n F (by decide) dX3_clauseTold_57 ?_
              refine j_aload_n F rfl dX3_clauseTold_58 ?_
              refine t_get F hT 25 (by decide) (v := vI (liF (rlN (fuC M) (clM M) n) 1 b)) (congrArg (fun z => some (vI z)) e25) q1511 dX3_clauseTold_59 ?_
              refine j_if_ne F 72 (by decide) (by omega) dX3_clauseTold_62 (fun c62 => ?_) (fun c62 => ?_)
              · skip
                refine j_iinc F rfl (by decide) dX3_clauseTold_72 ?_
                refine j_goto F 19 (by decide) dX3_clauseTold_75 ?_
                refine j_lv (lv' := [(0, .ref x), (1, vI w), (2, vI ((n + 1) : Int))]) ⟨rfl, rfl, rfl, trivial⟩ ?_
                exact ih19 (n + 1) _ _ ⟨by omega, fun k hk => by
                  by_cases e : k = n
                  · rw [e]; exact hgo
                  · exact hI1 k (by omega), by show _ = stp ((fuC M) n) n (rlN (fuC M) (clM M) n); rw [← hb]; unfold stp; rw [if_neg c62]⟩ (by omega) hT
              · skip
                rw [if_pos c62] at e54
                subst e54
                have h9 := liF_0 c62
                have hn8 : n < 8 := by
                  have q2 : n ≠ 8 := fun e => h9.1 (by rw [hb, e]; exact h8)
                  omega
                refine j_aload_n F rfl dX3_clauseTold_65 ?_
                refine t_get F hT 27 (by decide) rfl q1513 dX3_clauseTold_66 ?_
                refine j_iload_n F rfl dX3_clauseTold_69 ?_
                refine j_iload_n F rfl dX3_clauseTold_70 ?_
                refine t_iast F hT 27 tm_27 rfl (by omega) dX3_clauseTold_71 (fun h hT => ?_)
                refine j_iinc F rfl (by decide) dX3_clauseTold_72 ?_
                refine j_goto F 19 (by decide) dX3_clauseTold_75 ?_
                refine j_lv (lv' := [(0, .ref x), (1, vI w), (2, vI ((n + 1) : Int))]) ⟨rfl, rfl, rfl, trivial⟩ ?_
                exact ih19 (n + 1) _ _ ⟨by omega, fun k hk => by
                  by_cases e : k = n
                  · rw [e]; exact hgo
                  · exact hI1 k (by omega), by show _ = stp ((fuC M) n) n (rlN (fuC M) (clM M) n); rw [← hb]; unfold stp; rw [if_pos c62]⟩ (by omega) hT
            · skip
              refine j_iload_n F rfl dX3_clauseTold_39 ?_
              refine j_if_ne F 49 (by decide) (by omega) dX3_clauseTold_40 (fun c40 => ?_) (fun c40 => ?_)
              · skip
                refine j_iconst F dX3_clauseTold_49 ?_
                refine j_goto F 54 (by decide) dX3_clauseTold_50 ?_
                exact Kj39 _ _ (by unfold fuC; split at hw <;> first | (exfalso; omega) | rw [if_pos (by omega)] | rw [if_neg (by omega)]) hT
              · skip
                refine j_iload_n F rfl dX3_clauseTold_43 ?_
                refine j_bipush F (by decide) dX3_clauseTold_44 ?_
                refine j_icmp_ne F 53 (by decide) (by omega) (by omega) dX3_clauseTold_46 (fun c46 => ?_) (fun c46 => ?_)
                · skip
                  refine j_iconst F dX3_clauseTold_53 ?_
                  exact Kj39 _ _ (by unfold fuC; split at hw <;> first | (exfalso; omega) | rw [if_pos (by omega)] | rw [if_neg (by omega)]) hT
                · skip
                  refine j_iconst F dX3_clauseTold_49 ?_
                  refine j_goto F 54 (by decide) dX3_clauseTold_50 ?_
                  exact Kj39 _ _ (by unfold fuC; split at hw <;> first | (exfalso; omega) | rw [if_pos (by omega)] | rw [if_neg (by omega)]) hT
          · skip
            refine j_aload_n F rfl dX3_clauseTold_30 ?_
            refine t_callI F hT (ct_X3_isLit l G KS x _ hXn) (by decide) (by decide) (lw_V q1880 q1882 qs97 q110 q1883) pd_X3_isLit rfl (Nat.le_of_ble_eq_true rfl) (Nat.le_refl _) (Nat.le_refl _) dX3_clauseTold_31 (fun v31 M31 h hv31 hT => ?_)
            obtain ⟨e31, q31⟩ := hv31
            subst q31
            have z31 := z01 e31
            refine j_if_eq F 78 (by decide) (by omega) dX3_clauseTold_34 (fun c34 => ?_) (fun c34 => ?_)
            · skip
              have hst : ¬ go9 (rlN (fuC M) (clM M) n) := fun q => by rw [if_pos (show hr (rlN (fuC M) (clM M) n) = 45 ∨ (48 ≤ hr (rlN (fuC M) (clM M) n) ∧ hr (rlN (fuC M) (clM M) n) ≤ 57) from q.2)] at e31; omega
              have hnn := rn_at hI1 hst
              refine j_aload_n F rfl dX3_clauseTold_78 ?_
              refine t_callV F hT (ct_X3_endsStatement l G KS x _ hXn.hr) (by decide) (by decide) (lw_V q1888 q1890 qs99 q110 q1891) pd_X3_endsStatement rfl (Nat.le_of_ble_eq_true rfl) (Nat.le_refl _) (Nat.le_refl _) dX3_clauseTold_79 (fun M79 h hv79 hT => ?_)
              rw [es_hr c23] at hv79
              subst hv79
              have hES := hYn.es
              have hEf := hES.1.2.2.2.2.1
              have e1E : (esM (rlN (fuC M) (clM M) n)) 1 = M 1 := (es_q _ (by decide) (by decide)).trans e1n
              refine j_aload_n F rfl dX3_clauseTold_82 ?_
              refine t_get F hT 25 (by decide) rfl q1511 dX3_clauseTold_83 ?_
              refine j_if_eq F 90 (by decide) (by omega) dX3_clauseTold_86 (fun c86 => ?_) (fun c86 => ?_)
              · skip
                have hn1 : 1 ≤ n := by
                  by_cases e : n = 0
                  · exfalso; rw [e] at hst; exact hst ⟨hf0, hi⟩
                  · omega
                have hroom : M 1 2 < 80 ∧ M 1 1 < 400 := by
                  have q1 : rlN (fuC M) (clM M) 1 25 0 = 0 := by
                    by_cases e : n = 1
                    · rw [← e]; exact es_25 c86
                    · exact hgk 1 (by omega)
                  rw [rlN, stp_25 _ _ (hgk 0 (by omega))] at q1
                  have q2 := (liF_0 q1).1
                  exact Classical.byContradiction (fun z => q2 (if_pos (Or.inl z)))
                refine j_aload_n F rfl dX3_clauseTold_90 ?_
                refine j_iconst F dX3_clauseTold_91 ?_
                refine j_iload_n F rfl dX3_clauseTold_92 ?_
                refine t_callI F hT (ct_X3_begins l G KS x _ (f := 0) (n := (n : Int)) (by unfold rg; omega) (by rw [e1E]; omega)) (by decide) (by decide) (lw_V q1609 q1611 qs54 q110 q1612) pd_X3_begins rfl (Nat.le_of_ble_eq_true rfl) (Nat.le_refl _) (Nat.le_refl _) dX3_clauseTold_93 (fun v93 M93 h hv93 hT => ?_)
                obtain ⟨e93, q93⟩ := hv93
                subst e93 q93
                have hE1 : (esM (rlN (fuC M) (clM M) n)) 1 1 < 400 := by rw [e1E]; exact hroom.2
                have hE0 : 0 ≤ (esM (rlN (fuC M) (clM M) n)) 1 1 := by rw [e1E]; exact hmy.1
                refine j_istore_n F (by decide) dX3_clauseTold_96 ?_
                refine j_iconst F dX3_clauseTold_97 ?_
                refine j_istore F (by decide) dX3_clauseTold_98 ?_
                have L100 : ∀ (m100 : Nat) (k : Int) (N9 : Mt) (h : Hp), (0 ≤ k ∧ k ≤ n ∧ N9 = sM (esM (rlN (fuC M) (clM M) n)) 1 (putL (bgR ((esM (rlN (fuC M) (clM M) n)) 1) 0 n) ((esM (rlN (fuC M) (clM M) n)) 1 1) k ((esM (rlN (fuC M) (clM M) n)) 27))) → (n - k).toNat < m100 → Tw G x N9 h0 h → J X h 100 [(0, .ref x), (2, vI (n : Int)), (3, vI ((esM (rlN (fuC M) (clM M) n)) 1 1)), (4, vI k)] [] 0 0 := by
                  intro m100
                  induction m100 with
                  | zero => intro k N9 h hI hm100 hT; exact absurd hm100 (Nat.not_lt_zero _)
                  | succ m100 ih100 =>
                    intro k N9 h hI hm100 hT
                    obtain ⟨hK0, hK1, hK2⟩ := hI
                    subst hK2
                    refine j_iload F rfl dX3_clauseTold_100 ?_
                    refine j_iload_n F rfl dX3_clauseTold_102 ?_
                    refine j_icmp_ge F 135 (by decide) (by omega) (by omega) dX3_clauseTold_103 (fun c103 => ?_) (fun c103 => ?_)
                    · skip
                      exact j_vret F E (Nat.zero_le _) (Nat.zero_le _) dX3_clauseTold_135 (tv_post hT (by
                        have hk : k = (n : Int) := by omega
                        subst hk
                        unfold ctM; rw [hnn]; unfold ceM; rw [if_pos c86]))
                    · skip
                      refine j_aload_n F rfl dX3_clauseTold_106 ?_
                      refine t_get F hT 1 (by decide) rfl q1487 dX3_clauseTold_107 ?_
                      refine j_sipush F (by decide) dX3_clauseTold_110 ?_
                      refine j_bipush F (by decide) dX3_clauseTold_113 ?_
                      refine j_iload_n F rfl dX3_clauseTold_115 ?_
                      refine j_imul F dX3_clauseTold_116 ?_
                      refine j_iadd F dX3_clauseTold_117 ?_
                      refine j_iload F rfl dX3_clauseTold_118 ?_
                      refine j_iadd F dX3_clauseTold_120 ?_
                      refine j_aload_n F rfl dX3_clauseTold_121 ?_
                      refine t_get F hT 27 (by decide) rfl q1513 dX3_clauseTold_122 ?_
                      refine j_iload F rfl dX3_clauseTold_125 ?_
                      refine t_ialdw F hT 27 tm_27 (esM (rlN (fuC M) (clM M) n) 27 k) rfl (by omega) dX3_clauseTold_127 ?_
                      refine t_iast F hT 1 tm_1 rfl (by omega) dX3_clauseTold_128 (fun h hT => ?_)
                      refine j_iinc F rfl (by decide) dX3_clauseTold_129 ?_
                      refine j_goto F 100 (by decide) dX3_clauseTold_132 ?_
                      refine j_lv (lv' := [(0, .ref x), (2, vI (n : Int)), (3, vI ((esM (rlN (fuC M) (clM M) n)) 1 1)), (4, vI (k + 1))]) ⟨rfl, rfl, rfl, rfl, trivial⟩ ?_
                      exact ih100 (k + 1) _ _ ⟨by omega, by omega, by rw [oM_sM, putL_s hK0 rfl]⟩ (by omega) hT
                refine j_lv (lv' := [(0, .ref x), (2, vI (n : Int)), (3, vI ((esM (rlN (fuC M) (clM M) n)) 1 1)), (4, vI 0)]) ⟨rfl, rfl, rfl, rfl, trivial⟩ ?_
                exact L100 _ 0 _ _ ⟨by omega, by omega, by rw [putL_0]⟩ (Nat.lt_succ_self _) hT
              · skip
                exact j_vret F E (Nat.zero_le _) (Nat.zero_le _) dX3_clauseTold_89 (tv_post hT (by unfold ctM; rw [hnn]; unfold ceM; rw [if_neg c86]))
            · skip
              have hgo : go9 (rlN (fuC M) (clM M) n) := ⟨c23, Classical.byContradiction (fun z => by rw [if_neg (show ¬ (hr (rlN (fuC M) (clM M) n) = 45 ∨ (48 ≤ hr (rlN (fuC M) (clM M) n) ∧ hr (rlN (fuC M) (clM M) n) ≤ 57)) from z)] at e31; omega)⟩
              refine j_aload_n F rfl dX3_clauseTold_37 ?_
              refine j_iconst F dX3_clauseTold_38 ?_
              refine j_joinT (x := x) (M := (hrM (rlN (fuC M) (clM M) n))) (G := G) (h0 := h0) 54 (fun b => b = (fuC M) n) (fun b h hb hT => ?_) (fun Kj39 => ?_)
              · skip
                have hb01 : b = 0 ∨ b = 1 := by rw [hb]; unfold fuC; split <;> omega
                refine t_callI F hT (ct_X3_litE l G KS x _ (u := 1) (fu := b) (Or.inr rfl) hb01 hVn hXn.hr hYn.hr9.2.1 c23) (by decide) (by decide) (lw_V q1828 q1830 qs90 q110 q1831) pd_X3_lit rfl (Nat.le_of_ble_eq_true rfl) (Nat.le_refl _) (Nat.le_refl _) dX3_clauseTold_54 (fun v54 M54 h hv54 hT => ?_)
                obtain ⟨e54, q54⟩ := hv54
                rw [liF_hr, liL_hr] at e54
                rw [liM_hr] at q54
                subst q54
                have e25 := li_25 (u := 1) (b := b) c23
                have hlr := hXn.li hYn.2.1 1 b
                refine j_istore_n F (by decide) dX3_clauseTold_57 ?_
                refine j_aload_n F rfl dX3_clauseTold_58 ?_
                refine t_get F hT 25 (by decide) (v := vI (liF (rlN (fuC M) (clM M) n) 1 b)) (congrArg (fun z => some (vI z)) e25) q1511 dX3_clauseTold_59 ?_
                refine j_if_ne F 72 (by decide) (by omega) dX3_clauseTold_62 (fun c62 => ?_) (fun c62 => ?_)
                · skip
                  refine j_iinc F rfl (by decide) dX3_clauseTold_72 ?_
                  refine j_goto F 19 (by decide) dX3_clauseTold_75 ?_
                  refine j_lv (lv' := [(0, .ref x), (1, vI w), (2, vI ((n + 1) : Int))]) ⟨rfl, rfl, rfl, trivial⟩ ?_
                  exact ih19 (n + 1) _ _ ⟨by omega, fun k hk => by
                    by_cases e : k = n
                    · rw [e]; exact hgo
                    · exact hI1 k (by omega), by show _ = stp ((fuC M) n) n (rlN (fuC M) (clM M) n); rw [← hb]; unfold stp; rw [if_neg c62]⟩ (by omega) hT
                · skip
                  rw [if_pos c62] at e54
                  subst e54
                  have h9 := liF_0 c62
                  have hn8 : n < 8 := by
                    have q2 : n ≠ 8 := fun e => h9.1 (by rw [hb, e]; exact h8)
                    omega
                  refine j_aload_n F rfl dX3_clauseTold_65 ?_
                  refine t_get F hT 27 (by decide) rfl q1513 dX3_clauseTold_66 ?_
                  refine j_iload_n F rfl dX3_clauseTold_69 ?_
                  refine j_iload_n F rfl dX3_clauseTold_70 ?_
                  refine t_iast F hT 27 tm_27 rfl (by omega) dX3_clauseTold_71 (fun h hT => ?_)
                  refine j_iinc F rfl (by decide) dX3_clauseTold_72 ?_
                  refine j_goto F 19 (by decide) dX3_clauseTold_75 ?_
                  refine j_lv (lv' := [(0, .ref x), (1, vI w), (2, vI ((n + 1) : Int))]) ⟨rfl, rfl, rfl, trivial⟩ ?_
                  exact ih19 (n + 1) _ _ ⟨by omega, fun k hk => by
                    by_cases e : k = n
                    · rw [e]; exact hgo
                    · exact hI1 k (by omega), by show _ = stp ((fuC M) n) n (rlN (fuC M) (clM M) n); rw [← hb]; unfold stp; rw [if_pos c62]⟩ (by omega) hT
              · skip
                refine j_iload_n F rfl dX3_clauseTold_39 ?_
                refine j_if_ne F 49 (by decide) (by omega) dX3_clauseTold_40 (fun c40 => ?_) (fun c40 => ?_)
                · skip
                  refine j_iconst F dX3_clauseTold_49 ?_
                  refine j_goto F 54 (by decide) dX3_clauseTold_50 ?_
                  exact Kj39 _ _ (by unfold fuC; split at hw <;> first | (exfalso; omega) | rw [if_pos (by omega)] | rw [if_neg (by omega)]) hT
                · skip
                  refine j_iload_n F rfl dX3_clauseTold_43 ?_
                  refine j_bipush F (by decide) dX3_clauseTold_44 ?_
                  refine j_icmp_ne F 53 (by decide) (by omega) (by omega) dX3_clauseTold_46 (fun c46 => ?_) (fun c46 => ?_)
                  · skip
                    refine j_iconst F dX3_clauseTold_53 ?_
                    exact Kj39 _ _ (by unfold fuC; split at hw <;> first | (exfalso; omega) | rw [if_pos (by omega)] | rw [if_neg (by omega)]) hT
                  · skip
                    refine j_iconst F dX3_clauseTold_49 ?_
                    refine j_goto F 54 (by decide) dX3_clauseTold_50 ?_
                    exact Kj39 _ _ (by unfold fuC; split at hw <;> first | (exfalso; omega) | rw [if_pos (by omega)] | rw [if_neg (by omega)]) hT
    refine j_lv (lv' := [(0, .ref x), (1, vI w), (2, vI (0 : Int))]) ⟨rfl, rfl, rfl, trivial⟩ ?_
    exact L19 _ 0 _ _ ⟨by omega, fun k hk => absurd hk (Nat.not_lt_zero _), rfl⟩ (Nat.lt_succ_self _) hT
  · skip
    refine j_aload_n F rfl dX3_clauseTold_4 ?_
    refine t_callI F hT (ct_X3_isRoom l G KS x _ ⟨by have := hR.told; show rg (M 1 2); unfold rg; omega, by have := hR.many; show rg (M 1 1); unfold rg; omega⟩) (by decide) (by decide) (lw_V q1605 q1607 qs53 q110 q1608) pd_X3_isRoom rfl (Nat.le_of_ble_eq_true rfl) (Nat.le_refl _) (Nat.le_refl _) dX3_clauseTold_5 (fun v5 M' h hv5 hT => ?_)
    obtain ⟨hv5, rfl⟩ := hv5
    have hv5' : v5 = if M 1 2 < 80 ∧ M 1 1 < 400 then 1 else 0 := hv5
    have z5 := z01 hv5'
    refine j_if_ne F 15 (by decide) (by omega) dX3_clauseTold_8 (fun c8 => ?_) (fun c8 => ?_)
    · skip
      refine j_iconst F dX3_clauseTold_15 ?_
      exact Kj4 _ _ (by split at hv5' <;> split <;> omega) hT
    · skip
      refine j_iconst F dX3_clauseTold_11 ?_
      refine j_goto F 16 (by decide) dX3_clauseTold_12 ?_
      exact Kj4 _ _ (by split at hv5' <;> split <;> omega) hT

theorem pd_X3_assumeTold : yX3_assumeTold.cls = RX3 ∧ yX3_assumeTold.cls ≠ "java/lang/invoke/MethodHandle" ∧ yX3_assumeTold.cls ≠ "java/lang/invoke/VarHandle" ∧ (parseMethodDescriptor yX3_assumeTold.desc).map (fun d => d.parameters.length) = some 0 := by decide +kernel
theorem ct_X3_assumeTold (l : Launch) (G : Gt) (KS : Ks l G) (x : Nat) (M : Mt) (hR : RI (M 1)) (hY : TY M) (hf0 : M 25 0 = 0) : TV l G yX3_assumeTold cX3_assumeTold 3 5 x [] M (fun M' => M' = atM M) := by
  intro h0 h hT
  refine ct_of KS (by decide) (Nat.le_of_ble_eq_true rfl) (fun X F E => ?_)
  refine j_lv (lv' := [(0, .ref x)]) ⟨rfl, trivial⟩ ?_
  have hVc := hR.V
  have hmy := hR.many
  have hYc := hY.cl
  refine j_aload_n F rfl dX3_assumeTold_0 ?_
  refine t_callV F hT (ct_X3_clearsTold l G KS x M) (by decide) (by decide) (lw_V q1824 q1826 qs89 q110 q1827) pd_X3_clearsTold rfl (Nat.le_of_ble_eq_true rfl) (Nat.le_refl _) (Nat.le_refl _) dX3_assumeTold_1 (fun M1 h hv1 hT => ?_)
  subst hv1
  refine j_iconst F dX3_assumeTold_4 ?_
  refine j_istore_n F (by decide) dX3_assumeTold_5 ?_
  have L6 : ∀ (m6 : Nat) (n : Nat) (N : Mt) (h : Hp), (n ≤ 9 ∧ (∀ k : Nat, k < n → go9 (rlN fuA (clM M) k)) ∧ N = rlN fuA (clM M) n) → (9 - n) < m6 → Tw G x N h0 h → J X h 6 [(0, .ref x), (1, vI (n : Int))] [] 0 0 := by
    intro m6
    induction m6 with
    | zero => intro n N h hI hm6 hT; exact absurd hm6 (Nat.not_lt_zero _)
    | succ m6 ih6 =>
      intro n N h hI hm6 hT
      obtain ⟨hI0, hI1, hI2⟩ := hI
      have hgk : ∀ k : Nat, k < n → rlN fuA (clM M) k 25 0 = 0 := fun k hk => (hI1 k hk).1
      have hYn : TY (rlN fuA (clM M) n) := hYc.rd hVc n hgk
      have e1n : rlN fuA (clM M) n 1 = M 1 := rlN_x _ _ (by decide) (by decide) (by decide) (by decide) n
      have hVn : 0 ≤ rlN fuA (clM M) n 1 0 ∧ rlN fuA (clM M) n 1 0 ≤ 30 := by rw [e1n]; exact hVc
      have hXn := hYn.1
      have hfn := hXn.2.2.2.2.1
      have h8 : fuA 8 = 1 := if_pos rfl
      subst hI2
      refine j_aload_n F rfl dX3_assumeTold_6 ?_
      refine t_get F hT 25 (by decide) rfl q1511 dX3_assumeTold_7 ?_
      refine j_if_ne F 57 (by decide) (by omega) dX3_assumeTold_10 (fun c10 => ?_) (fun c10 => ?_)
      · skip
        have hst : ¬ go9 (rlN fuA (clM M) n) := fun q => c10 q.1
        have hnn := rn_at hI1 hst
        refine j_aload_n F rfl dX3_assumeTold_57 ?_
        refine t_callV F hT (ct_X3_endsStatement l G KS x _ hXn) (by decide) (by decide) (lw_V q1888 q1890 qs99 q110 q1891) pd_X3_endsStatement rfl (Nat.le_of_ble_eq_true rfl) (Nat.le_refl _) (Nat.le_refl _) dX3_assumeTold_58 (fun M58 h hv58 hT => ?_)
        subst hv58
        have hES := hYn.es
        have hEf := hES.1.2.2.2.2.1
        have e1E : (esM (rlN fuA (clM M) n)) 1 = M 1 := (es_q _ (by decide) (by decide)).trans e1n
        refine j_aload_n F rfl dX3_assumeTold_61 ?_
        refine t_get F hT 25 (by decide) rfl q1511 dX3_assumeTold_62 ?_
        refine j_if_eq F 69 (by decide) (by omega) dX3_assumeTold_65 (fun c65 => ?_) (fun c65 => ?_)
        · skip
          exact absurd (es_25 c65) c10
        · skip
          exact j_vret F E (Nat.zero_le _) (Nat.zero_le _) dX3_assumeTold_68 (tv_post hT (by unfold atM; rw [hnn]; unfold aeM; rw [if_neg c65]))
      · skip
        have hn8' := rd_8 (fu := fuA) (M := clM M) h8 hgk c10
        refine j_aload_n F rfl dX3_assumeTold_13 ?_
        refine t_callI F hT (ct_X3_isLit l G KS x _ hXn) (by decide) (by decide) (lw_V q1880 q1882 qs97 q110 q1883) pd_X3_isLit rfl (Nat.le_of_ble_eq_true rfl) (Nat.le_refl _) (Nat.le_refl _) dX3_assumeTold_14 (fun v14 M14 h hv14 hT => ?_)
        obtain ⟨e14, q14⟩ := hv14
        subst q14
        have z14 := z01 e14
        refine j_if_eq F 57 (by decide) (by omega) dX3_assumeTold_17 (fun c17 => ?_) (fun c17 => ?_)
        · skip
          have hst : ¬ go9 (rlN fuA (clM M) n) := fun q => by rw [if_pos (show hr (rlN fuA (clM M) n) = 45 ∨ (48 ≤ hr (rlN fuA (clM M) n) ∧ hr (rlN fuA (clM M) n) ≤ 57) from q.2)] at e14; omega
          have hnn := rn_at hI1 hst
          refine j_aload_n F rfl dX3_assumeTold_57 ?_
          refine t_callV F hT (ct_X3_endsStatement l G KS x _ hXn.hr) (by decide) (by decide) (lw_V q1888 q1890 qs99 q110 q1891) pd_X3_endsStatement rfl (Nat.le_of_ble_eq_true rfl) (Nat.le_refl _) (Nat.le_refl _) dX3_assumeTold_58 (fun M58 h hv58 hT => ?_)
          rw [es_hr c10] at hv58
          subst hv58
          have hES := hYn.es
          have hEf := hES.1.2.2.2.2.1
          have e1E : (esM (rlN fuA (clM M) n)) 1 = M 1 := (es_q _ (by decide) (by decide)).trans e1n
          refine j_aload_n F rfl dX3_assumeTold_61 ?_
          refine t_get F hT 25 (by decide) rfl q1511 dX3_assumeTold_62 ?_
          refine j_if_eq F 69 (by decide) (by omega) dX3_assumeTold_65 (fun c65 => ?_) (fun c65 => ?_)
          · skip
            refine j_aload_n F rfl dX3_assumeTold_69 ?_
            refine t_get F hT 1 (by decide) rfl q1487 dX3_assumeTold_70 ?_
            refine j_iconst F dX3_assumeTold_73 ?_
            refine j_iload_n F rfl dX3_assumeTold_74 ?_
            refine t_iast F hT 1 tm_1 rfl (by omega) dX3_assumeTold_75 (fun h hT => ?_)
            refine j_iconst F dX3_assumeTold_76 ?_
            refine j_istore_n F (by decide) dX3_assumeTold_77 ?_
            have L78 : ∀ (m78 : Nat) (k : Int) (N9 : Mt) (h : Hp), (0 ≤ k ∧ k ≤ n ∧ N9 = sM (esM (rlN fuA (clM M) n)) 1 (asR (oI ((esM (rlN fuA (clM M) n)) 1) 3 n) k ((esM (rlN fuA (clM M) n)) 27))) → (n - k).toNat < m78 → Tw G x N9 h0 h → J X h 78 [(0, .ref x), (1, vI (n : Int)), (2, vI k)] [] 0 0 := by
              intro m78
              induction m78 with
              | zero => intro k N9 h hI hm78 hT; exact absurd hm78 (Nat.not_lt_zero _)
              | succ m78 ih78 =>
                intro k N9 h hI hm78 hT
                obtain ⟨hK0, hK1, hK2⟩ := hI
                subst hK2
                refine j_iload_n F rfl dX3_assumeTold_78 ?_
                refine j_iload_n F rfl dX3_assumeTold_79 ?_
                refine j_icmp_ge F 104 (by decide) (by omega) (by omega) dX3_assumeTold_80 (fun c80 => ?_) (fun c80 => ?_)
                · skip
                  exact j_vret F E (Nat.zero_le _) (Nat.zero_le _) dX3_assumeTold_104 (tv_post hT (by
                    have hk : k = (n : Int) := by omega
                    subst hk
                    unfold atM; rw [hnn]; unfold aeM; rw [if_pos c65]))
                · skip
                  refine j_aload_n F rfl dX3_assumeTold_83 ?_
                  refine t_get F hT 1 (by decide) rfl q1487 dX3_assumeTold_84 ?_
                  refine j_bipush F (by decide) dX3_assumeTold_87 ?_
                  refine j_iload_n F rfl dX3_assumeTold_89 ?_
                  refine j_iadd F dX3_assumeTold_90 ?_
                  refine j_aload_n F rfl dX3_assumeTold_91 ?_
                  refine t_get F hT 27 (by decide) rfl q1513 dX3_assumeTold_92 ?_
                  refine j_iload_n F rfl dX3_assumeTold_95 ?_
                  refine t_ialdw F hT 27 tm_27 (esM (rlN fuA (clM M) n) 27 k) rfl (by omega) dX3_assumeTold_96 ?_
                  refine t_iast F hT 1 tm_1 rfl (by omega) dX3_assumeTold_97 (fun h hT => ?_)
                  refine j_iinc F rfl (by decide) dX3_assumeTold_98 ?_
                  refine j_goto F 78 (by decide) dX3_assumeTold_101 ?_
                  refine j_lv (lv' := [(0, .ref x), (1, vI (n : Int)), (2, vI (k + 1))]) ⟨rfl, rfl, rfl, trivial⟩ ?_
                  exact ih78 (k + 1) _ _ ⟨by omega, by omega, by rw [oM_sM, asR_s hK0 rfl]⟩ (by omega) hT
            refine j_lv (lv' := [(0, .ref x), (1, vI (n : Int)), (2, vI 0)]) ⟨rfl, rfl, rfl, trivial⟩ ?_
            exact L78 _ 0 _ _ ⟨by omega, by omega, by rw [asR_0]; rfl⟩ (Nat.lt_succ_self _) hT
          · skip
            exact j_vret F E (Nat.zero_le _) (Nat.zero_le _) dX3_assumeTold_68 (tv_post hT (by unfold atM; rw [hnn]; unfold aeM; rw [if_neg c65]))
        · skip
          have hgo : go9 (rlN fuA (clM M) n) := ⟨c10, Classical.byContradiction (fun z => by rw [if_neg (show ¬ (hr (rlN fuA (clM M) n) = 45 ∨ (48 ≤ hr (rlN fuA (clM M) n) ∧ hr (rlN fuA (clM M) n) ≤ 57)) from z)] at e14; omega)⟩
          refine j_aload_n F rfl dX3_assumeTold_20 ?_
          refine j_iconst F dX3_assumeTold_21 ?_
          refine j_joinT (x := x) (M := (hrM (rlN fuA (clM M) n))) (G := G) (h0 := h0) 33 (fun b => b = fuA n) (fun b h hb hT => ?_) (fun Kj22 => ?_)
          · skip
            have hb01 : b = 0 ∨ b = 1 := by rw [hb]; unfold fuA; split <;> omega
            refine t_callI F hT (ct_X3_litE l G KS x _ (u := 1) (fu := b) (Or.inr rfl) hb01 hVn hXn.hr hYn.hr9.2.1 c10) (by decide) (by decide) (lw_V q1828 q1830 qs90 q110 q1831) pd_X3_lit rfl (Nat.le_of_ble_eq_true rfl) (Nat.le_refl _) (Nat.le_refl _) dX3_assumeTold_33 (fun v33 M33 h hv33 hT => ?_)
            obtain ⟨e33, q33⟩ := hv33
            rw [liF_hr, liL_hr] at e33
            rw [liM_hr] at q33
            subst q33
            have e25 := li_25 (u := 1) (b := b) c10
            have hlr := hXn.li hYn.2.1 1 b
            refine j_istore_n F (by decide) dX3_assumeTold_36 ?_
            refine j_aload_n F rfl dX3_assumeTold_37 ?_
            refine t_get F hT 25 (by decide) (v := vI (liF (rlN fuA (clM M) n) 1 b)) (congrArg (fun z => some (vI z)) e25) q1511 dX3_assumeTold_38 ?_
            refine j_if_ne F 51 (by decide) (by omega) dX3_assumeTold_41 (fun c41 => ?_) (fun c41 => ?_)
            · skip
              refine j_iinc F rfl (by decide) dX3_assumeTold_51 ?_
              refine j_goto F 6 (by decide) dX3_assumeTold_54 ?_
              refine j_lv (lv' := [(0, .ref x), (1, vI ((n + 1) : Int))]) ⟨rfl, rfl, trivial⟩ ?_
              exact ih6 (n + 1) _ _ ⟨by omega, fun k hk => by
                by_cases e : k = n
                · rw [e]; exact hgo
                · exact hI1 k (by omega), by show _ = stp (fuA n) n (rlN fuA (clM M) n); rw [← hb]; unfold stp; rw [if_neg c41]⟩ (by omega) hT
            · skip
              rw [if_pos c41] at e33
              subst e33
              have h9 := liF_0 c41
              have hn8 : n < 8 := by
                have q2 : n ≠ 8 := fun e => h9.1 (by rw [hb, e]; exact h8)
                omega
              refine j_aload_n F rfl dX3_assumeTold_44 ?_
              refine t_get F hT 27 (by decide) rfl q1513 dX3_assumeTold_45 ?_
              refine j_iload_n F rfl dX3_assumeTold_48 ?_
              refine j_iload_n F rfl dX3_assumeTold_49 ?_
              refine t_iast F hT 27 tm_27 rfl (by omega) dX3_assumeTold_50 (fun h hT => ?_)
              refine j_iinc F rfl (by decide) dX3_assumeTold_51 ?_
              refine j_goto F 6 (by decide) dX3_assumeTold_54 ?_
              refine j_lv (lv' := [(0, .ref x), (1, vI ((n + 1) : Int))]) ⟨rfl, rfl, trivial⟩ ?_
              exact ih6 (n + 1) _ _ ⟨by omega, fun k hk => by
                by_cases e : k = n
                · rw [e]; exact hgo
                · exact hI1 k (by omega), by show _ = stp (fuA n) n (rlN fuA (clM M) n); rw [← hb]; unfold stp; rw [if_pos c41]⟩ (by omega) hT
          · skip
            refine j_iload_n F rfl dX3_assumeTold_22 ?_
            refine j_bipush F (by decide) dX3_assumeTold_23 ?_
            refine j_icmp_ne F 32 (by decide) (by omega) (by omega) dX3_assumeTold_25 (fun c25 => ?_) (fun c25 => ?_)
            · skip
              refine j_iconst F dX3_assumeTold_32 ?_
              exact Kj22 _ _ (by unfold fuA; first | rw [if_pos (by omega)] | rw [if_neg (by omega)]) hT
            · skip
              refine j_iconst F dX3_assumeTold_28 ?_
              refine j_goto F 33 (by decide) dX3_assumeTold_29 ?_
              exact Kj22 _ _ (by unfold fuA; first | rw [if_pos (by omega)] | rw [if_neg (by omega)]) hT
  refine j_lv (lv' := [(0, .ref x), (1, vI (0 : Int))]) ⟨rfl, rfl, trivial⟩ ?_
  exact L6 _ 0 _ _ ⟨by omega, fun k hk => absurd hk (Nat.not_lt_zero _), rfl⟩ (Nat.lt_succ_self _) hT
