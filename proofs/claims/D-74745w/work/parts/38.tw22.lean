/-! WHAT FOLLOWS -/
noncomputable def flS (M : Mt) : Mt := cmM M (opo (M 1) (M 5) (fst9 (M 1) (M 5) 1)) (fst9 (M 1) (M 5) 1)
noncomputable def flN (M : Mt) : Nat → Mt
  | 0 => M
  | n + 1 => flS (flN M n)
noncomputable def fnN (M : Mt) : Nat := lea (fun n => fst9 (flN M n 1) (flN M n 5) 1 = -1)
def fl0 (M : Mt) (n : Nat) : Prop := ∃ k : Nat, k ≤ n ∧ fst9 (flN M k 1) (flN M k 5) 0 ≠ -1
noncomputable def foE (M : Mt) : Mt := empM (oM M 0 0 0)
noncomputable def foV (E : Mt) (i : Int) : Int := if i = -1 then cif (fl0 E (fnN E)) 100 (flN E (fnN E) 10 0) else if i < flN E (fnN E) 10 0 then flN E (fnN E) 9 i else 0
theorem fl_o {M : Mt} (hK : TK M) (hR : RI (M 1)) (hT : TR M) : ∀ n : Nat, (∀ k : Nat, k < n → fst9 (flN M k 1) (flN M k 5) 1 ≠ -1) → TK (flN M n) ∧ TR (flN M n) ∧ flN M n 1 = M 1 ∧ flN M n 10 0 = M 10 0 + n ∧ (∀ q : Nat, q ≠ 5 → q ≠ 6 → q ≠ 7 → q ≠ 8 → q ≠ 9 → q ≠ 10 → flN M n q = M q)
  | 0, _ => ⟨hK, hT, rfl, by show M 10 0 = M 10 0 + 0; omega, fun _ _ _ _ _ _ _ => rfl⟩
  | n + 1, h => by
    obtain ⟨i1, i2, i3, i4, i5⟩ := fl_o hK hR hT n (fun k hk => h k (by omega))
    have hc := h n (by omega)
    have hRn : RI (flN M n 1) := by rw [i3]; exact hR
    obtain ⟨c0, c1, c2, c3⟩ := fst9_ok hc
    obtain ⟨u1, u2, u3⟩ := i1.unit hRn ⟨c0, c1⟩ c3
    have hi := iab_lok u1
    have hV := hRn.V
    have hlt := i1.1.1.lt hV.1 hi.1 hi.2 u2
    have hmy := hRn.many
    refine ⟨u3, i2.cm (lok_mono u1 hV.2) (by omega) (by omega), ?_, ?_, fun q a b c d e f => ?_⟩
    · exact i3
    · show flN M n 10 0 + 1 = _
      omega
    · rw [flN]
      unfold flS
      rw [cm_q _ _ _ a b c d e f]
      exact i5 q a b c d e f
/-! WHAT IS REFUSED -/
theorem opG_0 {s g : Int → Int} {n : Int} (h : opG s g n = 0) : ∀ k : Int, 0 ≤ k → k < n → trv s (g k) < 0 := by
  intro k k0 k1
  have h1 : ¬ ∃ k : Int, 0 ≤ k ∧ k < n ∧ 0 < trv s (g k) := fun q => by
    unfold opG at h
    rw [cif_t q] at h
    omega
  have h2 : cnt (fun k => trv s (g k)) 0 n.toNat = 0 := by
    unfold opG at h
    rwa [cif_f h1] at h
  have h3 := cnt_0 _ h2 k k0 (by omega)
  have h4 : ¬ 0 < trv s (g k) := fun q => h1 ⟨k, k0, k1, q⟩
  omega
theorem opG_of0 {s g : Int → Int} {n : Int} (h : ∀ k : Int, 0 ≤ k → k < n → trv s (g k) < 0) : opG s g n = 0 := by
  unfold opG
  rw [cif_f (fun ⟨k, k0, k1, k2⟩ => by have := h k k0 k1; omega)]
  exact cnt_of0 _ (fun k k0 k1 => by have := h k k0 (by omega); omega)
theorem opG_19 {s g : Int → Int} {n : Int} (h : opG s g n = 1) : ∃ k : Int, 0 ≤ k ∧ k < n ∧ trv s (g k) = 0 ∧ ooG s g n = g k ∧ ∀ i : Int, 0 ≤ i → i < n → i ≠ k → trv s (g i) < 0 := by
  have h1 : ¬ ∃ k : Int, 0 ≤ k ∧ k < n ∧ 0 < trv s (g k) := fun q => by
    unfold opG at h
    rw [cif_t q] at h
    omega
  have h2 : cnt (fun k => trv s (g k)) 0 n.toNat = 1 := by
    unfold opG at h
    rwa [cif_f h1] at h
  obtain ⟨k, k0, k1, k2, k3⟩ := cnt_1 _ h2
  have hl : lst (fun k => trv s (g k) = 0) n = k := lst_at k0 (by omega) k2 (fun d d0 d1 => k3 d d0 (by omega) (by omega))
  refine ⟨k, k0, by omega, k2, ?_, fun i i0 i1 i2 => ?_⟩
  · unfold ooG
    rw [hl, cif_f (by omega)]
  · have a := k3 i i0 (by omega) i2
    have b : ¬ 0 < trv s (g i) := fun q => h1 ⟨i, i0, i1, q⟩
    omega
theorem opG_of1 {s g : Int → Int} {n k : Int} (k0 : 0 ≤ k) (k1 : k < n) (k2 : trv s (g k) = 0) (k3 : ∀ i : Int, 0 ≤ i → i < n → i ≠ k → trv s (g i) < 0) : opG s g n = 1 := by
  unfold opG
  rw [cif_f (fun ⟨i, i0, i1, i2⟩ => by
    by_cases e : i = k
    · rw [e] at i2; omega
    · have := k3 i i0 i1 e; omega)]
  exact cnt_of1 _ k0 (by omega) k2 (fun i i0 i1 i2 => by have := k3 i i0 (by omega) i2; omega)
theorem opn_G9 (R s : Int → Int) (c : Int) : opn R s c = opG s (lit R c) (siz R c) := rfl
theorem opo_G9 (R s : Int → Int) (c : Int) : opo R s c = ooG s (lit R c) (siz R c) := rfl
/-- neither false nor of one open literal -/
def gcl (s g : Int → Int) (n : Int) : Prop := opG s g n ≠ 0 ∧ opG s g n ≠ 1
/-- told clauses, lines ahead of L, read lines ahead of K are so -/
def clo (M : Mt) (L K : Int) (s : Int → Int) : Prop := (∀ c : Int, 0 ≤ c → c < M 1 1 → ¬ (flg (M 1) c = 1 ∨ flg (M 1) c = 3) → gcl s (lit (M 1) c) (siz (M 1) c)) ∧ (∀ k : Int, 0 ≤ k → k < L → M 1 (925 + k) ≠ -1 ∧ gcl s (lit (M 1) (M 1 (925 + k))) (siz (M 1) (M 1 (925 + k)))) ∧ ∀ k : Int, 0 ≤ k → k < K → gcl s (rdG M k) (rdN M k)
def exs (V : Int) (s0 s : Int → Int) : Prop := ∀ v : Int, 1 ≤ v → v ≤ V → s0 v ≠ 0 → s v = s0 v
def Rfd (M : Mt) (L K : Int) (s0 : Int → Int) : Prop := ∀ s : Int → Int, s3 s → exs (M 1 0) s0 s → ¬ clo M L K s
/-- a state of the reader's trail: all it holds follows -/
def Iv (M : Mt) (L K : Int) (N : Mt) : Prop := T0 N ∧ TR N ∧ (∀ q : Nat, q ≠ 5 → q ≠ 6 → q ≠ 7 → q ≠ 8 → q ≠ 9 → q ≠ 10 → N q = M q) ∧ exs (M 1 0) (M 5) (N 5) ∧ ∀ s : Int → Int, s3 s → exs (M 1 0) (M 5) s → clo M L K s → exs (M 1 0) (N 5) s
theorem exs_neg {V : Int} {s0 s : Int → Int} (h : exs V s0 s) {l : Int} (hl : lok V l) (hn : trv s0 l < 0) : trv s l < 0 := by
  have hi := iab_lok hl
  rw [trv_iab hl.1] at hn ⊢
  have hne : s0 (iab l) ≠ 0 := fun q => by rw [q] at hn; split at hn <;> omega
  rw [h _ hi.1 hi.2 hne]
  exact hn
theorem Iv.no {M N : Mt} {L K : Int} (h : Iv M L K N) {g : Int → Int} {n : Int} (hg : ∀ k : Int, 0 ≤ k → k < n → lok (M 1 0) (g k)) (h0 : opG (N 5) g n = 0) (hc : ∀ s : Int → Int, clo M L K s → gcl s g n) : Rfd M L K (M 5) := by
  intro s hs he hcl
  have h1 := h.2.2.2.2 s hs he hcl
  exact (hc s hcl).1 (opG_of0 (fun k k0 k1 => exs_neg h1 (hg k k0 k1) (opG_0 h0 k k0 k1)))
theorem Iv.one {M N : Mt} {L K : Int} (hR : RI (M 1)) (h : Iv M L K N) {g : Int → Int} {n w : Int} (hw : -1 ≤ w ∧ w < 400) (hg : ∀ k : Int, 0 ≤ k → k < n → lok (M 1 0) (g k)) (h1 : opG (N 5) g n = 1) (hc : ∀ s : Int → Int, clo M L K s → gcl s g n) : lok (M 1 0) (ooG (N 5) g n) ∧ N 5 (iab (ooG (N 5) g n)) = 0 ∧ N 10 0 < 30 ∧ Iv M L K (cmM N (ooG (N 5) g n) w) := by
  obtain ⟨k, k0, k1, k2, k3, k4⟩ := opG_19 h1
  have hl := hg k k0 k1
  rw [k3]
  have hz := trv_0 hl.1 k2
  have hi := iab_lok hl
  have hV := hR.V
  obtain ⟨a1, a2, a3, a4, a5⟩ := h
  have e1 : N 1 = M 1 := a3 1 (by decide) (by decide) (by decide) (by decide) (by decide) (by decide)
  have hlt := a1.lt (by rw [e1]; exact hV.1) hi.1 (by rw [e1]; exact hi.2) hz
  rw [e1] at hlt
  refine ⟨hl, hz, by omega, a1.cm w (by rw [e1]; exact hV.1) (by rw [e1]; exact hl) hz, a2.cm (lok_mono hl hV.2) (by omega) hw, fun q b c d e f i => by rw [cm_q _ _ _ b c d e f i]; exact a3 q b c d e f i, fun v v0 v1 hv => ?_, fun s hs he hcl v v0 v1 hv => ?_⟩
  · rw [cm_5]
    have := a4 v v0 v1 hv
    rw [oI_n _ _ (fun e => by rw [e] at this hv; rw [hz] at this; exact hv this.symm)]
    exact this
  · have h2 := a5 s hs he hcl
    rw [cm_5] at hv ⊢
    by_cases e : v = iab (g k)
    · rw [e, oI_s]
      -- the open literal is true wherever all is as it should be
      have h3 := hc s hcl
      have h4 : 0 < trv s (g k) := by
        rcases Int.lt_trichotomy (trv s (g k)) 0 with q | q | q
        · exfalso
          refine h3.1 (opG_of0 (fun i i0 i1 => ?_))
          by_cases ei : i = k
          · rw [ei]; exact q
          · exact exs_neg h2 (hg i i0 i1) (k4 i i0 i1 ei)
        · exfalso
          exact h3.2 (opG_of1 k0 k1 q (fun i i0 i1 i2 => exs_neg h2 (hg i i0 i1) (k4 i i0 i1 i2)))
        · exact q
      have hr := hs (iab (g k)) (by omega) (by omega)
      rw [trv_iab hl.1] at h4
      unfold sg9
      split at h4
      · rename_i z
        rw [if_pos z]; omega
      · rename_i z
        rw [if_neg z]; omega
    · rw [oI_n _ _ e] at hv ⊢
      exact h2 v v0 v1 hv
theorem drv_2 {n : Int} : drv n = 2 ↔ n = 0 := by unfold drv; (repeat' split) <;> omega
theorem drv_1 {n : Int} : drv n = 1 ↔ n = 1 := by unfold drv; (repeat' split) <;> omega
theorem drv_rg (n : Int) : 0 ≤ drv n ∧ drv n ≤ 2 := by unfold drv; (repeat' split) <;> omega
/-- a sweep: nothing came, and all so far is as it should be; or something came -/
def Sw (M : Mt) (L K : Int) (N0 N1 : Mt) (mr : Int) (P : Prop) : Prop := (mr = 0 ∨ mr = 1) ∧ Iv M L K N1 ∧ N0 10 0 ≤ N1 10 0 ∧ (mr = 0 → N1 = N0 ∧ P) ∧ (mr = 1 → N0 10 0 < N1 10 0)
theorem Sw.step {M : Mt} {L K : Int} {N0 N1 N2 : Mt} {mr how w : Int} {P P' : Prop} (h : Sw M L K N0 N1 mr P) (h2 : Iv M L K N2) (hle : N1 10 0 ≤ N2 10 0) (h1 : how = 1 → N1 10 0 < N2 10 0) (h0 : how ≠ 1 → N2 = N1 ∧ (N1 = N0 → P → P')) (hw : w = if mr = 1 ∨ how = 1 then 1 else 0) : Sw M L K N0 N2 w P' := by
  obtain ⟨a1, a2, a3, a4, a5⟩ := h
  refine ⟨by split at hw <;> omega, h2, by omega, fun e => ?_, fun e => ?_⟩
  · have q : ¬ (mr = 1 ∨ how = 1) := fun z => by rw [if_pos z] at hw; omega
    have q0 : mr = 0 := by omega
    obtain ⟨b1, b2⟩ := a4 q0
    obtain ⟨c1, c2⟩ := h0 (fun z => q (Or.inr z))
    exact ⟨c1.trans b1, c2 b1 b2⟩
  · by_cases q : how = 1
    · have := h1 q
      omega
    · have : mr = 1 := by
        by_cases z : mr = 1
        · exact z
        · rw [if_neg (by omega)] at hw; omega
      have := a5 this
      omega
theorem df_step {M N : Mt} {L K : Int} (hR : RI (M 1)) (h : Iv M L K N) {c : Int} (c0 : 0 ≤ c) (c1 : c < M 1 1) (hc : ∀ s : Int → Int, clo M L K s → gcl s (lit (M 1) c) (siz (M 1) c)) : Iv M L K (dfM N c) ∧ N 10 0 ≤ dfM N c 10 0 ∧ (drv (opn (N 1) (N 5) c) = 1 → N 10 0 < dfM N c 10 0) ∧ (drv (opn (N 1) (N 5) c) ≠ 1 → dfM N c = N) ∧ (opn (N 1) (N 5) c = 1 → N 10 0 < 30) := by
  have e1 : N 1 = M 1 := h.2.2.1 1 (by decide) (by decide) (by decide) (by decide) (by decide) (by decide)
  have hmy := hR.many
  by_cases q : opn (N 1) (N 5) c = 1
  · have q' : opG (N 5) (lit (M 1) c) (siz (M 1) c) = 1 := by rw [e1] at q; exact q
    obtain ⟨a1, a2, a3, a4⟩ := Iv.one hR h (w := c) (by omega) (hR.cl c0 c1).2.2.2.2 q' hc
    have e : dfM N c = cmM N (ooG (N 5) (lit (M 1) c) (siz (M 1) c)) c := by unfold dfM; rw [cif_t q, opo_G9, e1]
    rw [e]
    have e10 : cmM N (ooG (N 5) (lit (M 1) c) (siz (M 1) c)) c 10 0 = N 10 0 + 1 := rfl
    exact ⟨a4, by omega, fun _ => by omega, fun z => absurd (drv_1.mpr q) z, fun _ => a3⟩
  · have e : dfM N c = N := cif_f q
    rw [e]
    exact ⟨h, Int.le_refl _, fun z => absurd (drv_1.mp z) q, fun _ => rfl, fun z => absurd z q⟩
theorem dr_step {M N : Mt} {L K : Int} (hR : RI (M 1)) (h : Iv M L K N) {a : Int} (hl : ∀ k : Int, 0 ≤ k → k < rdN M a → lok (M 1 0) (rdG M a k)) (hc : ∀ s : Int → Int, clo M L K s → gcl s (rdG M a) (rdN M a)) : Iv M L K (drM N a) ∧ N 10 0 ≤ drM N a 10 0 ∧ (drv (opG (N 5) (rdG N a) (rdN N a)) = 1 → N 10 0 < drM N a 10 0) ∧ (drv (opG (N 5) (rdG N a) (rdN N a)) ≠ 1 → drM N a = N) ∧ (opG (N 5) (rdG N a) (rdN N a) = 1 → N 10 0 < 30) ∧ rdG N a = rdG M a ∧ rdN N a = rdN M a := by
  have e8 : N 18 = M 18 := h.2.2.1 18 (by decide) (by decide) (by decide) (by decide) (by decide) (by decide)
  have e9 : N 19 = M 19 := h.2.2.1 19 (by decide) (by decide) (by decide) (by decide) (by decide) (by decide)
  have eg : rdG N a = rdG M a := by unfold rdG; rw [e8, e9]
  have en : rdN N a = rdN M a := by unfold rdN; rw [e9]
  rw [eg, en]
  by_cases q : opG (N 5) (rdG M a) (rdN M a) = 1
  · obtain ⟨a1, a2, a3, a4⟩ := Iv.one hR h (w := -1) (by omega) hl q hc
    have e : drM N a = cmM N (ooG (N 5) (rdG M a) (rdN M a)) (-1) := by unfold drM; rw [eg, en, cif_t q]
    rw [e]
    have e10 : cmM N (ooG (N 5) (rdG M a) (rdN M a)) (-1) 10 0 = N 10 0 + 1 := rfl
    exact ⟨a4, by omega, fun _ => by omega, fun z => absurd (drv_1.mpr q) z, fun _ => a3, rfl, rfl⟩
  · have e : drM N a = N := by unfold drM; rw [eg, en]; exact cif_f q
    rw [e]
    exact ⟨h, Int.le_refl _, fun z => absurd (drv_1.mp z) q, fun _ => rfl, fun z => absurd z q, rfl, rfl⟩
def Pto (M : Mt) (s : Int → Int) (c : Int) : Prop := ∀ d : Int, 0 ≤ d → d < c → ¬ (flg (M 1) d = 1 ∨ flg (M 1) d = 3) → gcl s (lit (M 1) d) (siz (M 1) d)
def Pli (M : Mt) (s : Int → Int) (c : Int) : Prop := ∀ d : Int, 0 ≤ d → d < c → M 1 (925 + d) ≠ -1 ∧ gcl s (lit (M 1) (M 1 (925 + d))) (siz (M 1) (M 1 (925 + d)))
def Prd (M : Mt) (s : Int → Int) (c : Int) : Prop := ∀ d : Int, 0 ≤ d → d < c → gcl s (rdG M d) (rdN M d)
theorem pd_X3_follows : yX3_follows.cls = RX3 ∧ yX3_follows.cls ≠ "java/lang/invoke/MethodHandle" ∧ yX3_follows.cls ≠ "java/lang/invoke/VarHandle" ∧ (parseMethodDescriptor yX3_follows.desc).map (fun d => d.parameters.length) = some 1 := by decide +kernel
theorem ct_X3_follows (l : Launch) (G : Gt) (KS : Ks l G) (x : Nat) (M : Mt) {a : Int} (ha : rg a) (hR : RI (M 1)) (hTR : TR M) : TI l G yX3_follows cX3_follows 4 (some FieldType.int) 4 x [vI a] M (fun v M' => (a < -1 → v = 0 ∧ M' = oM M 0 0 0) ∧ (¬ a < -1 → v = foV (foE M) a ∧ M' = flN (foE M) (fnN (foE M)))) := by
  intro h0 h hT
  refine ct_of KS (by decide) (Nat.le_of_ble_eq_true rfl) (fun X F E => ?_)
  refine j_lv (lv' := [(0, .ref x), (1, vI a)]) ⟨rfl, rfl, trivial⟩ ?_
  unfold rg at ha
  have hV := hR.V
  have hmy := hR.many
  have hKE : TK (foE M) := TK.emp (M := oM M 0 0 0) hV
  have hTE : TR (foE M) := TR.emp (M := oM M 0 0 0) hTR
  have hRE : RI ((foE M) 1) := hR
  refine j_aload_n F rfl dX3_follows_0 ?_
  refine j_iconst F dX3_follows_1 ?_
  refine t_put F hT 0 (by decide) rfl rfl rfl (by decide) q1486 dX3_follows_2 (fun h hT => ?_)
  refine j_iload_n F rfl dX3_follows_5 ?_
  refine j_iconst F dX3_follows_6 ?_
  refine j_icmp_ge F 12 (by decide) (by omega) (by omega) dX3_follows_7 (fun c7 => ?_) (fun c7 => ?_)
  · skip
    refine j_aload_n F rfl dX3_follows_12 ?_
    refine t_callV F hT (ct_X3_empties l G KS x _) (by decide) (by decide) (lw_V q1657 q1659 qs58 q110 q1660) pd_X3_empties rfl (Nat.le_of_ble_eq_true rfl) (Nat.le_refl _) (Nat.le_refl _) dX3_follows_13 (fun M13 h hv13 hT => ?_)
    have e13 : M13 = (foE M) := hv13
    subst e13
    refine j_joinT (x := x) (M := (foE M)) (G := G) (h0 := h0) 30 (fun w => w = cif (fl0 (foE M) 0) 1 0) (fun w h hw hT => ?_) (fun Kj16 => ?_)
    · skip
      refine j_istore_n F (by decide) dX3_follows_30 ?_
      refine j_aload_n F rfl dX3_follows_31 ?_
      refine j_iconst F dX3_follows_32 ?_
      refine t_callI F hT (ct_X3_firstOf l G KS x _ (a := 1) hRE hTE.s (by omega)) (by decide) (by decide) (lw_V q1677 q1679 qs63 q110 q1680) pd_X3_firstOf rfl (Nat.le_of_ble_eq_true rfl) (Nat.le_refl _) (Nat.le_refl _) dX3_follows_33 (fun v33 M' h hv33 hT => ?_)
      obtain ⟨hv33, rfl⟩ := hv33
      refine j_istore_n F (by decide) dX3_follows_36 ?_
      have L37 : ∀ (m37 : Nat) (n : Nat) (b c : Int) (N : Mt) (h : Hp), ((∀ k : Nat, k < n → fst9 (flN (foE M) k 1) (flN (foE M) k 5) 1 ≠ -1) ∧ b = cif (fl0 (foE M) n) 1 0 ∧ c = fst9 ((flN (foE M) n) 1) ((flN (foE M) n) 5) 1 ∧ N = (flN (foE M) n)) → (31 - n) < m37 → Tw G x N h0 h → J X h 37 [(0, .ref x), (1, vI a), (2, vI b), (3, vI c)] [] 0 0 := by
        intro m37
        induction m37 with
        | zero => intro n b c N h hI hm37 hT; exact absurd hm37 (Nat.not_lt_zero _)
        | succ m37 ih37 =>
          intro n b c N h hI hm37 hT
          obtain ⟨hI0, hI1, hI2, hI3⟩ := hI
          subst hI3
          obtain ⟨i1, i2, i3, i4, i5⟩ := fl_o hKE hRE hTE n hI0
          have hRn : RI ((flN (foE M) n) 1) := by rw [i3]; exact hR
          have hcr := fst9_rg ((flN (foE M) n) 1) ((flN (foE M) n) 5) 1 hRn.many.1
          have hmn := hRn.many
          have htn := i2.trd
          have e10 : (foE M) 10 0 = 0 := rfl
          have hVn := hRn.V
          have hb01 : b = 0 ∨ b = 1 := by rw [hI1]; exact cif_rg _
          refine j_iload_n F rfl dX3_follows_37 ?_
          refine j_iconst F dX3_follows_38 ?_
          refine j_icmp_eq F 80 (by decide) (by omega) (by omega) dX3_follows_39 (fun c39 => ?_) (fun c39 => ?_)
          · skip
            have hnn : fnN (foE M) = n := lea_at (by omega) (fun k hk q => hI0 k hk q)
            refine j_iload_n F rfl dX3_follows_80 ?_
            refine j_iconst F dX3_follows_81 ?_
            refine j_icmp_ne F 101 (by decide) (by omega) (by omega) dX3_follows_82 (fun c82 => ?_) (fun c82 => ?_)
            · skip
              refine j_iload_n F rfl dX3_follows_101 ?_
              refine j_aload_n F rfl dX3_follows_102 ?_
              refine t_get F hT 10 (by decide) rfl q1496 dX3_follows_103 ?_
              refine j_icmp_ge F 118 (by decide) (by omega) (by omega) dX3_follows_106 (fun c106 => ?_) (fun c106 => ?_)
              · skip
                refine j_iconst F dX3_follows_118 ?_
                exact j_iret F E (Nat.zero_le _) (Nat.zero_le _) dX3_follows_119 (ti_post hT ⟨fun q => absurd q (by omega), fun _ => ⟨by unfold foV; rw [hnn, if_neg (by omega), if_neg (by omega)], by rw [hnn]⟩⟩)
              · skip
                refine j_aload_n F rfl dX3_follows_109 ?_
                refine t_get F hT 9 (by decide) rfl q1495 dX3_follows_110 ?_
                refine j_iload_n F rfl dX3_follows_113 ?_
                refine t_iald F hT 9 tm_9 (by omega) dX3_follows_114 ?_
                refine j_goto F 119 (by decide) dX3_follows_115 ?_
                exact j_iret F E (Nat.zero_le _) (Nat.zero_le _) dX3_follows_119 (ti_post hT ⟨fun q => absurd q (by omega), fun _ => ⟨by unfold foV; rw [hnn, if_neg (by omega), if_pos (by omega)], by rw [hnn]⟩⟩)
            · skip
              refine j_iload_n F rfl dX3_follows_85 ?_
              refine j_if_eq F 94 (by decide) (by omega) dX3_follows_86 (fun c86 => ?_) (fun c86 => ?_)
              · skip
                have hfl : ¬ fl0 (foE M) n := fun z => by rw [cif_t z] at hI1; omega
                refine j_aload_n F rfl dX3_follows_94 ?_
                refine t_get F hT 10 (by decide) rfl q1496 dX3_follows_95 ?_
                refine j_goto F 119 (by decide) dX3_follows_98 ?_
                exact j_iret F E (Nat.zero_le _) (Nat.zero_le _) dX3_follows_119 (ti_post hT ⟨fun q => absurd q (by omega), fun _ => ⟨by unfold foV; rw [hnn, if_pos (by omega), cif_f hfl], by rw [hnn]⟩⟩)
              · skip
                have hfl : fl0 (foE M) n := Classical.byContradiction (fun z => by rw [cif_f z] at hI1; omega)
                refine j_bipush F (by decide) dX3_follows_89 ?_
                refine j_goto F 119 (by decide) dX3_follows_91 ?_
                exact j_iret F E (Nat.zero_le _) (Nat.zero_le _) dX3_follows_119 (ti_post hT ⟨fun q => absurd q (by omega), fun _ => ⟨by unfold foV; rw [hnn, if_pos (by omega), cif_t hfl], by rw [hnn]⟩⟩)
          · skip
            have hc9 : fst9 ((flN (foE M) n) 1) ((flN (foE M) n) 5) 1 ≠ -1 := by omega
            obtain ⟨o1, o2, o3, o4⟩ := fst9_ok hc9
            obtain ⟨u1, u2, u3⟩ := i1.unit hRn ⟨o1, o2⟩ o4
            have hi9 := iab_lok u1
            have hlt := i1.1.1.lt hVn.1 hi9.1 hi9.2 u2
            subst hI2
            obtain ⟨n1, n2, n3, n4, n5⟩ := fl_o hKE hRE hTE (n + 1) (fun k hk => by
              by_cases e : k = n
              · rw [e]; exact hc9
              · exact hI0 k (by omega))
            have hRn1 : RI (flN (foE M) (n + 1) 1) := by rw [n3]; exact hR
            have hmn1 := hRn1.many
            refine j_aload_n F rfl dX3_follows_42 ?_
            refine j_aload_n F rfl dX3_follows_43 ?_
            refine j_iload_n F rfl dX3_follows_44 ?_
            refine t_callI F hT (ct_X3_openOne l G KS x _ (c := fst9 ((flN (foE M) n) 1) ((flN (foE M) n) 5) 1) hRn i2.s ⟨o1, o2⟩) (by decide) (by decide) (lw_V q1728 q1730 qs75 q110 q1731) pd_X3_openOne rfl (Nat.le_of_ble_eq_true rfl) (Nat.le_refl _) (Nat.le_refl _) dX3_follows_45 (fun v45 M' h hv45 hT => ?_)
            obtain ⟨hv45, rfl⟩ := hv45
            subst hv45
            refine j_iload_n F rfl dX3_follows_48 ?_
            refine t_callV F hT (ct_X3_comes l G KS x _ (a := opo ((flN (foE M) n) 1) ((flN (foE M) n) 5) (fst9 ((flN (foE M) n) 1) ((flN (foE M) n) 5) 1)) (w := fst9 ((flN (foE M) n) 1) ((flN (foE M) n) 5) 1) (lok_mono u1 hVn.2) (by omega)) (by decide) (by decide) (lw_V q1717 q1719 qs73 q110 q1720) pd_X3_comes rfl (Nat.le_of_ble_eq_true rfl) (Nat.le_refl _) (Nat.le_refl _) dX3_follows_49 (fun M49 h hv49 hT => ?_)
            have e49 : M49 = flN (foE M) (n + 1) := hv49
            subst e49
            refine j_joinT (x := x) (M := flN (foE M) (n + 1)) (G := G) (h0 := h0) 70 (fun w => w = cif (fl0 (foE M) (n + 1)) 1 0) (fun w h hw hT => ?_) (fun Kj52 => ?_)
            · skip
              refine j_istore_n F (by decide) dX3_follows_70 ?_
              refine j_aload_n F rfl dX3_follows_71 ?_
              refine j_iconst F dX3_follows_72 ?_
              refine t_callI F hT (ct_X3_firstOf l G KS x _ (a := 1) hRn1 n2.s (by omega)) (by decide) (by decide) (lw_V q1677 q1679 qs63 q110 q1680) pd_X3_firstOf rfl (Nat.le_of_ble_eq_true rfl) (Nat.le_refl _) (Nat.le_refl _) dX3_follows_73 (fun v73 M' h hv73 hT => ?_)
              obtain ⟨hv73, rfl⟩ := hv73
              refine j_istore_n F (by decide) dX3_follows_76 ?_
              refine j_goto F 37 (by decide) dX3_follows_77 ?_
              refine j_lv (lv' := [(0, .ref x), (1, vI a), (2, vI w), (3, vI v73)]) ⟨rfl, rfl, rfl, rfl, trivial⟩ ?_
              exact ih37 (n + 1) w v73 _ _ ⟨fun k hk => by
                by_cases e : k = n
                · rw [e]; exact hc9
                · exact hI0 k (by omega), hw, hv73, rfl⟩ (by omega) hT
            · skip
              refine j_iload_n F rfl dX3_follows_52 ?_
              refine j_if_ne F 65 (by decide) (by omega) dX3_follows_53 (fun c53 => ?_) (fun c53 => ?_)
              · skip
                have hfl : fl0 (foE M) (n + 1) := by
                  have q : fl0 (foE M) n := Classical.byContradiction (fun z => by rw [cif_f z] at hI1; omega)
                  obtain ⟨k, k0, k1⟩ := q
                  exact ⟨k, by omega, k1⟩
                refine j_iconst F dX3_follows_65 ?_
                refine j_goto F 70 (by decide) dX3_follows_66 ?_
                exact Kj52 _ _ (by first | rw [cif_t hfl] | rw [cif_f hfl]) hT
              · skip
                have hfn0 : ¬ fl0 (foE M) n := fun z => by rw [cif_t z] at hI1; omega
                refine j_aload_n F rfl dX3_follows_56 ?_
                refine j_iconst F dX3_follows_57 ?_
                refine t_callI F hT (ct_X3_firstOf l G KS x _ (a := 0) hRn1 n2.s (by omega)) (by decide) (by decide) (lw_V q1677 q1679 qs63 q110 q1680) pd_X3_firstOf rfl (Nat.le_of_ble_eq_true rfl) (Nat.le_refl _) (Nat.le_refl _) dX3_follows_58 (fun v58 M' h hv58 hT => ?_)
                obtain ⟨hv58, rfl⟩ := hv58
                have h58 := fst9_rg (flN (foE M) (n + 1) 1) (flN (foE M) (n + 1) 5) 0 hmn1.1
                subst hv58
                refine j_iconst F dX3_follows_61 ?_
                refine j_icmp_eq F 69 (by decide) (by omega) (by omega) dX3_follows_62 (fun c62 => ?_) (fun c62 => ?_)
                · skip
                  have hfl : ¬ fl0 (foE M) (n + 1) := fun ⟨k, k0, k1⟩ => by
                    by_cases e : k = n + 1
                    · rw [e] at k1; exact k1 c62
                    · exact hfn0 ⟨k, by omega, k1⟩
                  refine j_iconst F dX3_follows_69 ?_
                  exact Kj52 _ _ (by first | rw [cif_t hfl] | rw [cif_f hfl]) hT
                · skip
                  have hfl : fl0 (foE M) (n + 1) := ⟨n + 1, Nat.le_refl _, c62⟩
                  refine j_iconst F dX3_follows_65 ?_
                  refine j_goto F 70 (by decide) dX3_follows_66 ?_
                  exact Kj52 _ _ (by first | rw [cif_t hfl] | rw [cif_f hfl]) hT
      refine j_lv (lv' := [(0, .ref x), (1, vI a), (2, vI w), (3, vI v33)]) ⟨rfl, rfl, rfl, rfl, trivial⟩ ?_
      exact L37 _ 0 w v33 _ _ ⟨fun k hk => absurd hk (Nat.not_lt_zero _), hw, hv33, rfl⟩ (Nat.lt_succ_self _) hT
    · skip
      refine j_aload_n F rfl dX3_follows_16 ?_
      refine j_iconst F dX3_follows_17 ?_
      refine t_callI F hT (ct_X3_firstOf l G KS x _ (a := 0) hRE hTE.s (by omega)) (by decide) (by decide) (lw_V q1677 q1679 qs63 q110 q1680) pd_X3_firstOf rfl (Nat.le_of_ble_eq_true rfl) (Nat.le_refl _) (Nat.le_refl _) dX3_follows_18 (fun v18 M' h hv18 hT => ?_)
      obtain ⟨hv18, rfl⟩ := hv18
      have h18 := fst9_rg ((foE M) 1) ((foE M) 5) 0 hmy.1
      subst hv18
      refine j_iconst F dX3_follows_21 ?_
      refine j_icmp_eq F 29 (by decide) (by have q : M 1 1 ≤ 400 := hmy.2; have q2 : fst9 ((foE M) 1) ((foE M) 5) 0 ≤ M 1 1 := h18.2; omega) (by omega) dX3_follows_22 (fun c22 => ?_) (fun c22 => ?_)
      · skip
        have hfl : ¬ fl0 (foE M) 0 := fun ⟨k, k0, k1⟩ => by rw [show k = 0 by omega] at k1; exact k1 c22
        refine j_iconst F dX3_follows_29 ?_
        exact Kj16 _ _ (by first | rw [cif_t hfl] | rw [cif_f hfl]) hT
      · skip
        have hfl : fl0 (foE M) 0 := ⟨0, Nat.le_refl _, c22⟩
        refine j_iconst F dX3_follows_25 ?_
        refine j_goto F 30 (by decide) dX3_follows_26 ?_
        exact Kj16 _ _ (by first | rw [cif_t hfl] | rw [cif_f hfl]) hT
  · skip
    refine j_iconst F dX3_follows_10 ?_
    exact j_iret F E (Nat.zero_le _) (Nat.zero_le _) dX3_follows_11 (ti_post hT ⟨fun _ => ⟨rfl, rfl⟩, fun q => absurd (show a < -1 by omega) q⟩)

theorem pd_X3_isRefused : yX3_isRefused.cls = RX3 ∧ yX3_isRefused.cls ≠ "java/lang/invoke/MethodHandle" ∧ yX3_isRefused.cls ≠ "java/lang/invoke/VarHandle" ∧ (parseMethodDescriptor yX3_isRefused.desc).map (fun d => d.parameters.length) = some 2 := by decide +kernel
theorem ct_X3_isRefused (l : Launch) (G : Gt) (KS : Ks l G) (x : Nat) (M : Mt) {L K : Int} (hR : RI (M 1)) (hTR : TR M) (hT0 : T0 M) (hL : 0 ≤ L ∧ L ≤ M 1 6) (hK : 0 ≤ K ∧ K ≤ 400) (hrd : ∀ k : Int, 0 ≤ k → k < K → (0 ≤ M 19 k ∧ M 19 k ≤ M 19 (k + 1) ∧ M 19 (k + 1) ≤ 400) ∧ ∀ i : Int, M 19 k ≤ i → i < M 19 (k + 1) → lok (M 1 0) (M 18 i)) : TI l G yX3_isRefused cX3_isRefused 6 (some FieldType.boolean) 4 x [vI L, vI K] M (fun v M' => (v = 0 ∨ v = 1) ∧ (v = 1 ↔ Rfd M L K (M 5)) ∧ (∀ q : Nat, q ≠ 5 → q ≠ 6 → q ≠ 7 → q ≠ 8 → q ≠ 9 → q ≠ 10 → M' q = M q) ∧ TR M') := by
  intro h0 h hT
  refine ct_of KS (by decide) (Nat.le_of_ble_eq_true rfl) (fun X F E => ?_)
  refine j_lv (lv' := [(0, .ref x), (1, vI L), (2, vI K)]) ⟨rfl, rfl, rfl, trivial⟩ ?_
  have hV := hR.V
  have hmy := hR.many
  have hln := hR.lines
  have hrf := hR.ref
  refine j_iconst F dX3_isRefused_0 ?_
  refine j_istore_n F (by decide) dX3_isRefused_1 ?_
  have L2 : ∀ (m2 : Nat) (mr : Int) (N : Mt) (h : Hp), ((mr = 0 ∨ mr = 1) ∧ Iv M L K N ∧ (mr = 0 → clo M L K (N 5))) → (if mr = 1 then (31 - N 10 0).toNat + 1 else 0) < m2 → Tw G x N h0 h → J X h 2 [(0, .ref x), (1, vI L), (2, vI K), (3, vI mr)] [] 0 0 := by
    intro m2
    induction m2 with
    | zero => intro mr N h hI hm2 hT; exact absurd hm2 (Nat.not_lt_zero _)
    | succ m2 ih2 =>
      intro mr N h hI hm2 hT
      obtain ⟨hO0, hO1, hO2⟩ := hI
      have htN := hO1.2.1.trd
      refine j_iload_n F rfl dX3_isRefused_2 ?_
      refine j_if_eq F 198 (by decide) (by omega) dX3_isRefused_3 (fun c3 => ?_) (fun c3 => ?_)
      · skip
        refine j_iconst F dX3_isRefused_198 ?_
        exact j_zret F E (by omega) (Nat.zero_le _) (Nat.zero_le _) dX3_isRefused_199 (ti_post hT ⟨Or.inl rfl, ⟨fun q => absurd q (by omega), fun q => absurd (hO2 c3) (q (N 5) hO1.2.1.s hO1.2.2.2.1)⟩, hO1.2.2.1, hO1.2.1⟩)
      · skip
        have c3' : mr = 1 := by omega
        refine j_iconst F dX3_isRefused_6 ?_
        refine j_istore_n F (by decide) dX3_isRefused_7 ?_
        refine j_iconst F dX3_isRefused_8 ?_
        refine j_istore F (by decide) dX3_isRefused_9 ?_
        have L11 : ∀ (m11 : Nat) (mr c : Int) (N1 : Mt) (h : Hp), (0 ≤ c ∧ c ≤ M 1 1 ∧ Sw M L K N N1 mr (Pto M (N 5) c)) → (M 1 1 - c).toNat < m11 → Tw G x N1 h0 h → J X h 11 [(0, .ref x), (1, vI L), (2, vI K), (3, vI mr), (4, vI c)] [] 0 0 := by
          intro m11
          induction m11 with
          | zero => intro mr c N1 h hI hm11 hT; exact absurd hm11 (Nat.not_lt_zero _)
          | succ m11 ih11 =>
            intro mr c N1 h hI hm11 hT
            obtain ⟨hc0, hc1, hSw⟩ := hI
            have hIv := hSw.2.1
            have e1n : N1 1 = M 1 := hIv.2.2.1 1 (by decide) (by decide) (by decide) (by decide) (by decide) (by decide)
            have hRn : RI (N1 1) := by rw [e1n]; exact hR
            have hmr := hSw.1
            have e1n1 : N1 1 1 = M 1 1 := congrFun e1n 1
            refine j_iload F rfl dX3_isRefused_11 ?_
            refine j_aload_n F rfl dX3_isRefused_13 ?_
            refine t_get F hT 1 (by decide) rfl q1487 dX3_isRefused_14 ?_
            refine j_iconst F dX3_isRefused_17 ?_
            refine t_ialdw F hT 1 tm_1 (M 1 1) e1n1 (by omega) dX3_isRefused_18 ?_
            refine j_icmp_ge F 73 (by decide) (by omega) (by omega) dX3_isRefused_19 (fun c19 => ?_) (fun c19 => ?_)
            · skip
              refine j_iconst F dX3_isRefused_73 ?_
              refine j_istore F (by decide) dX3_isRefused_74 ?_
              have L76 : ∀ (m76 : Nat) (mr c : Int) (N2 : Mt) (h : Hp), (0 ≤ c ∧ c ≤ L ∧ Sw M L K N N2 mr (Pto M (N 5) (M 1 1) ∧ Pli M (N 5) c)) → (L - c).toNat < m76 → Tw G x N2 h0 h → J X h 76 [(0, .ref x), (1, vI L), (2, vI K), (3, vI mr), (4, vI c)] [] 0 0 := by
                intro m76
                induction m76 with
                | zero => intro mr c N2 h hI hm76 hT; exact absurd hm76 (Nat.not_lt_zero _)
                | succ m76 ih76 =>
                  intro mr c N2 h hI hm76 hT
                  obtain ⟨hc0, hc1, hSw⟩ := hI
                  have hIv := hSw.2.1
                  have e1n : N2 1 = M 1 := hIv.2.2.1 1 (by decide) (by decide) (by decide) (by decide) (by decide) (by decide)
                  have hRn : RI (N2 1) := by rw [e1n]; exact hR
                  have hmr := hSw.1
                  have e1n1 : N2 1 1 = M 1 1 := congrFun e1n 1
                  refine j_iload F rfl dX3_isRefused_76 ?_
                  refine j_iload_n F rfl dX3_isRefused_78 ?_
                  refine j_icmp_ge F 148 (by decide) (by omega) (by omega) dX3_isRefused_79 (fun c79 => ?_) (fun c79 => ?_)
                  · skip
                    refine j_iconst F dX3_isRefused_148 ?_
                    refine j_istore F (by decide) dX3_isRefused_149 ?_
                    have L151 : ∀ (m151 : Nat) (mr c : Int) (N3 : Mt) (h : Hp), (0 ≤ c ∧ c ≤ K ∧ Sw M L K N N3 mr (Pto M (N 5) (M 1 1) ∧ Pli M (N 5) L ∧ Prd M (N 5) c)) → (K - c).toNat < m151 → Tw G x N3 h0 h → J X h 151 [(0, .ref x), (1, vI L), (2, vI K), (3, vI mr), (4, vI c)] [] 0 0 := by
                      intro m151
                      induction m151 with
                      | zero => intro mr c N3 h hI hm151 hT; exact absurd hm151 (Nat.not_lt_zero _)
                      | succ m151 ih151 =>
                        intro mr c N3 h hI hm151 hT
                        obtain ⟨hc0, hc1, hSw⟩ := hI
                        have hIv := hSw.2.1
                        have e1n : N3 1 = M 1 := hIv.2.2.1 1 (by decide) (by decide) (by decide) (by decide) (by decide) (by decide)
                        have hRn : RI (N3 1) := by rw [e1n]; exact hR
                        have hmr := hSw.1
                        have e1n1 : N3 1 1 = M 1 1 := congrFun e1n 1
                        refine j_iload F rfl dX3_isRefused_151 ?_
                        refine j_iload_n F rfl dX3_isRefused_153 ?_
                        refine j_icmp_ge F 195 (by decide) (by omega) (by omega) dX3_isRefused_154 (fun c154 => ?_) (fun c154 => ?_)
                        · skip
                          refine j_goto F 2 (by decide) dX3_isRefused_195 ?_
                          refine j_lv (lv' := [(0, .ref x), (1, vI L), (2, vI K), (3, vI mr)]) ⟨rfl, rfl, rfl, rfl, trivial⟩ ?_
                          exact ih2 mr _ _ ⟨hSw.1, hSw.2.1, fun e => by
                            obtain ⟨z1, z2, z3, z4⟩ := hSw.2.2.2.1 e
                            rw [z1]
                            exact ⟨fun c c0 c1 => z2 c c0 (by omega), z3, fun k k0 k1 => z4 k k0 (by omega)⟩⟩ (by
                            rw [if_pos c3'] at hm2
                            have z5 := hSw.2.2.2.2
                            have z6 := hSw.1
                            split
                            · rename_i e
                              have := z5 e
                              omega
                            · omega) hT
                        · skip
                          obtain ⟨r1, r2⟩ := hrd c hc0 (by omega)
                          have hlr : ∀ k : Int, 0 ≤ k → k < rdN M c → lok (M 1 0) (rdG M c k) := fun k k0 k1 => r2 _ (by omega) (by unfold rdN at k1; omega)
                          have hcl9 : ∀ s : Int → Int, clo M L K s → gcl s (rdG M c) (rdN M c) := fun s hs => hs.2.2 c hc0 (by omega)
                          have hst := dr_step hR hIv hlr hcl9
                          have hdr := drv_rg (opG (N3 5) (rdG N3 c) (rdN N3 c))
                          have e18 : N3 18 = M 18 := hIv.2.2.1 18 (by decide) (by decide) (by decide) (by decide) (by decide) (by decide)
                          have e19 : N3 19 = M 19 := hIv.2.2.1 19 (by decide) (by decide) (by decide) (by decide) (by decide) (by decide)
                          refine j_aload_n F rfl dX3_isRefused_157 ?_
                          refine j_iload F rfl dX3_isRefused_158 ?_
                          refine t_callI F hT (ct_X3_drawsRead l G KS x N3 (a := c) hRn hIv.2.1 (by omega) (by rw [e19]; exact r1) (by rw [e18, e19]; exact fun i i0 i1 => lok_mono (r2 i i0 i1) hV.2) hst.2.2.2.2.1) (by decide) (by decide) (lw_V q1808 q1810 qs86 q110 q1811) pd_X3_drawsRead rfl (Nat.le_of_ble_eq_true rfl) (Nat.le_refl _) (Nat.le_refl _) dX3_isRefused_160 (fun v160 M160 h hv160 hT => ?_)
                          obtain ⟨e160, q160⟩ := hv160
                          subst e160 q160
                          refine j_istore F (by decide) dX3_isRefused_163 ?_
                          refine j_iload F rfl dX3_isRefused_165 ?_
                          refine j_iconst F dX3_isRefused_167 ?_
                          refine j_icmp_ne F 173 (by decide) (by omega) (by omega) dX3_isRefused_168 (fun c168 => ?_) (fun c168 => ?_)
                          · skip
                            have hd2 : opG (N3 5) (rdG N3 c) (rdN N3 c) ≠ 0 := fun q => c168 (drv_2.mpr q)
                            refine j_joinT (x := x) (M := drM N3 c) (G := G) (h0 := h0) 188 (fun w => w = if mr = 1 ∨ drv (opG (N3 5) (rdG N3 c) (rdN N3 c)) = 1 then 1 else 0) (fun w h hw hT => ?_) (fun Kj173 => ?_)
                            · skip
                              refine j_istore_n F (by decide) dX3_isRefused_188 ?_
                              refine j_iinc F rfl (by decide) dX3_isRefused_189 ?_
                              refine j_goto F 151 (by decide) dX3_isRefused_192 ?_
                              refine j_lv (lv' := [(0, .ref x), (1, vI L), (2, vI K), (3, vI w), (4, vI (c + 1))]) ⟨rfl, rfl, rfl, rfl, rfl, trivial⟩ ?_
                              exact ih151 w (c + 1) _ _ ⟨by omega, by omega, hSw.step hst.1 hst.2.1 hst.2.2.1 (fun q => ⟨hst.2.2.2.1 q, fun e0 hP => ⟨hP.1, hP.2.1, fun d d0 d1 => by
                                by_cases e : d = c
                                · rw [e, ← e0]
                                  refine ⟨?_, ?_⟩
                                  · intro z; exact hd2 (by rw [hst.2.2.2.2.2.1, hst.2.2.2.2.2.2]; exact z)
                                  · intro z; exact q (drv_1.mpr (by rw [hst.2.2.2.2.2.1, hst.2.2.2.2.2.2]; exact z))
                                · exact hP.2.2 d d0 (by omega)⟩⟩) hw⟩ (by omega) hT
                            · skip
                              refine j_iload_n F rfl dX3_isRefused_173 ?_
                              refine j_if_ne F 183 (by decide) (by omega) dX3_isRefused_174 (fun c174 => ?_) (fun c174 => ?_)
                              · skip
                                refine j_iconst F dX3_isRefused_183 ?_
                                refine j_goto F 188 (by decide) dX3_isRefused_184 ?_
                                exact Kj173 _ _ (by first | rw [if_pos (by omega)] | rw [if_neg (by omega)]) hT
                              · skip
                                refine j_iload F rfl dX3_isRefused_177 ?_
                                refine j_iconst F dX3_isRefused_179 ?_
                                refine j_icmp_ne F 187 (by decide) (by omega) (by omega) dX3_isRefused_180 (fun c180 => ?_) (fun c180 => ?_)
                                · skip
                                  refine j_iconst F dX3_isRefused_187 ?_
                                  exact Kj173 _ _ (by first | rw [if_pos (by omega)] | rw [if_neg (by omega)]) hT
                                · skip
                                  refine j_iconst F dX3_isRefused_183 ?_
                                  refine j_goto F 188 (by decide) dX3_isRefused_184 ?_
                                  exact Kj173 _ _ (by first | rw [if_pos (by omega)] | rw [if_neg (by omega)]) hT
                          · skip
                            have hno : Rfd M L K (M 5) := hIv.no hlr (by have := drv_2.mp c168; rw [hst.2.2.2.2.2.1, hst.2.2.2.2.2.2] at this; exact this) hcl9
                            refine j_iconst F dX3_isRefused_171 ?_
                            exact j_zret F E (by omega) (Nat.zero_le _) (Nat.zero_le _) dX3_isRefused_172 (ti_post hT ⟨Or.inr rfl, ⟨fun _ => hno, fun _ => rfl⟩, hst.1.2.2.1, hst.1.2.1⟩)
                    refine j_lv (lv' := [(0, .ref x), (1, vI L), (2, vI K), (3, vI mr), (4, vI 0)]) ⟨rfl, rfl, rfl, rfl, rfl, trivial⟩ ?_
                    exact L151 _ mr 0 _ _ ⟨by omega, by omega, hSw.1, hSw.2.1, hSw.2.2.1, fun e => by
                      obtain ⟨z1, z2, z3⟩ := hSw.2.2.2.1 e
                      refine ⟨z1, z2, ?_, fun d d0 d1 => by omega⟩
                      rw [show c = L by omega] at z3
                      exact z3, hSw.2.2.2.2⟩ (Nat.lt_succ_self _) hT
                  · skip
                    have hln9 := hR.ln (k := c) hc0 (by omega)
                    refine j_aload_n F rfl dX3_isRefused_82 ?_
                    refine t_get F hT 1 (by decide) rfl q1487 dX3_isRefused_83 ?_
                    refine j_sipush F (by decide) dX3_isRefused_86 ?_
                    refine j_iload F rfl dX3_isRefused_89 ?_
                    refine j_iadd F dX3_isRefused_91 ?_
                    refine t_ialdw F hT 1 tm_1 (M 1 (925 + c)) (congrFun e1n _) (by omega) dX3_isRefused_92 ?_
                    refine j_iconst F dX3_isRefused_93 ?_
                    refine j_icmp_ne F 101 (by decide) (by omega) (by omega) dX3_isRefused_94 (fun c94 => ?_) (fun c94 => ?_)
                    · skip
                      have hnl : M 1 (925 + c) ≠ -1 := c94
                      have hcl9 : ∀ s : Int → Int, clo M L K s → gcl s (lit (M 1) (M 1 (925 + c))) (siz (M 1) (M 1 (925 + c))) := fun s hs => (hs.2.1 c hc0 (by omega)).2
                      have hst := df_step hR hIv (c := M 1 (925 + c)) (by omega) (by omega) hcl9
                      have hdr := drv_rg (opn (N2 1) (N2 5) (M 1 (925 + c)))
                      refine j_aload_n F rfl dX3_isRefused_101 ?_
                      refine j_aload_n F rfl dX3_isRefused_102 ?_
                      refine t_get F hT 1 (by decide) rfl q1487 dX3_isRefused_103 ?_
                      refine j_sipush F (by decide) dX3_isRefused_106 ?_
                      refine j_iload F rfl dX3_isRefused_109 ?_
                      refine j_iadd F dX3_isRefused_111 ?_
                      refine t_ialdw F hT 1 tm_1 (M 1 (925 + c)) (congrFun e1n _) (by omega) dX3_isRefused_112 ?_
                      refine t_callI F hT (ct_X3_drawsFrom l G KS x N2 (c := M 1 (925 + c)) hRn hIv.2.1 (by rw [e1n]; omega) hst.2.2.2.2) (by decide) (by decide) (lw_V q1804 q1806 qs85 q110 q1807) pd_X3_drawsFrom rfl (Nat.le_of_ble_eq_true rfl) (Nat.le_refl _) (Nat.le_refl _) dX3_isRefused_113 (fun v113 M113 h hv113 hT => ?_)
                      obtain ⟨e113, q113⟩ := hv113
                      subst e113 q113
                      refine j_istore F (by decide) dX3_isRefused_116 ?_
                      refine j_iload F rfl dX3_isRefused_118 ?_
                      refine j_iconst F dX3_isRefused_120 ?_
                      refine j_icmp_ne F 126 (by decide) (by omega) (by omega) dX3_isRefused_121 (fun c121 => ?_) (fun c121 => ?_)
                      · skip
                        have hd2 : opn (N2 1) (N2 5) (M 1 (925 + c)) ≠ 0 := fun q => c121 (drv_2.mpr q)
                        refine j_joinT (x := x) (M := dfM N2 (M 1 (925 + c))) (G := G) (h0 := h0) 141 (fun w => w = if mr = 1 ∨ drv (opn (N2 1) (N2 5) (M 1 (925 + c))) = 1 then 1 else 0) (fun w h hw hT => ?_) (fun Kj126 => ?_)
                        · skip
                          refine j_istore_n F (by decide) dX3_isRefused_141 ?_
                          refine j_iinc F rfl (by decide) dX3_isRefused_142 ?_
                          refine j_goto F 76 (by decide) dX3_isRefused_145 ?_
                          refine j_lv (lv' := [(0, .ref x), (1, vI L), (2, vI K), (3, vI w), (4, vI (c + 1))]) ⟨rfl, rfl, rfl, rfl, rfl, trivial⟩ ?_
                          exact ih76 w (c + 1) _ _ ⟨by omega, by omega, hSw.step hst.1 hst.2.1 hst.2.2.1 (fun q => ⟨hst.2.2.2.1 q, fun e0 hP => ⟨hP.1, fun d d0 d1 => by
                            by_cases e : d = c
                            · rw [e, ← e0]
                              refine ⟨hnl, ?_, ?_⟩
                              · intro z; exact hd2 (by rw [e1n]; exact z)
                              · intro z; exact q (drv_1.mpr (by rw [e1n]; exact z))
                            · exact hP.2 d d0 (by omega)⟩⟩) hw⟩ (by omega) hT
                        · skip
                          refine j_iload_n F rfl dX3_isRefused_126 ?_
                          refine j_if_ne F 136 (by decide) (by omega) dX3_isRefused_127 (fun c127 => ?_) (fun c127 => ?_)
                          · skip
                            refine j_iconst F dX3_isRefused_136 ?_
                            refine j_goto F 141 (by decide) dX3_isRefused_137 ?_
                            exact Kj126 _ _ (by first | rw [if_pos (by omega)] | rw [if_neg (by omega)]) hT
                          · skip
                            refine j_iload F rfl dX3_isRefused_130 ?_
                            refine j_iconst F dX3_isRefused_132 ?_
                            refine j_icmp_ne F 140 (by decide) (by omega) (by omega) dX3_isRefused_133 (fun c133 => ?_) (fun c133 => ?_)
                            · skip
                              refine j_iconst F dX3_isRefused_140 ?_
                              exact Kj126 _ _ (by first | rw [if_pos (by omega)] | rw [if_neg (by omega)]) hT
                            · skip
                              refine j_iconst F dX3_isRefused_136 ?_
                              refine j_goto F 141 (by decide) dX3_isRefused_137 ?_
                              exact Kj126 _ _ (by first | rw [if_pos (by omega)] | rw [if_neg (by omega)]) hT
                      · skip
                        have hno : Rfd M L K (M 5) := hIv.no (hR.cl (c := M 1 (925 + c)) (by omega) (by omega)).2.2.2.2 (by have := drv_2.mp c121; rw [e1n] at this; exact this) hcl9
                        refine j_iconst F dX3_isRefused_124 ?_
                        exact j_zret F E (by omega) (Nat.zero_le _) (Nat.zero_le _) dX3_isRefused_125 (ti_post hT ⟨Or.inr rfl, ⟨fun _ => hno, fun _ => rfl⟩, hst.1.2.2.1, hst.1.2.1⟩)
                    · skip
                      refine j_iconst F dX3_isRefused_97 ?_
                      refine j_goto F 116 (by decide) dX3_isRefused_98 ?_
                      refine j_istore F (by decide) dX3_isRefused_116 ?_
                      refine j_iload F rfl dX3_isRefused_118 ?_
                      refine j_iconst F dX3_isRefused_120 ?_
                      refine j_icmp_ne F 126 (by decide) (by omega) (by omega) dX3_isRefused_121 (fun c121 => ?_) (fun c121 => ?_)
                      · skip
                        exact absurd rfl c121
                      · skip
                        refine j_iconst F dX3_isRefused_124 ?_
                        exact j_zret F E (by omega) (Nat.zero_le _) (Nat.zero_le _) dX3_isRefused_125 (ti_post hT ⟨Or.inr rfl, ⟨fun _ => fun s _ _ hs => (hs.2.1 c hc0 (by omega)).1 (by omega), fun _ => rfl⟩, hIv.2.2.1, hIv.2.1⟩)
              refine j_lv (lv' := [(0, .ref x), (1, vI L), (2, vI K), (3, vI mr), (4, vI 0)]) ⟨rfl, rfl, rfl, rfl, rfl, trivial⟩ ?_
              exact L76 _ mr 0 _ _ ⟨by omega, by omega, hSw.1, hSw.2.1, hSw.2.2.1, fun e => by
                obtain ⟨z1, z2⟩ := hSw.2.2.2.1 e
                refine ⟨z1, ?_, fun d d0 d1 => by omega⟩
                rw [show c = M 1 1 by omega] at z2
                exact z2, hSw.2.2.2.2⟩ (Nat.lt_succ_self _) hT
            · skip
              have hfl9 := (hR.cl hc0 (by omega)).2.2
              refine j_aload_n F rfl dX3_isRefused_22 ?_
              refine j_iload F rfl dX3_isRefused_23 ?_
              refine t_callI F hT (ct_X3_isLearnt l G KS x _ (c := c) (by omega) (by rw [e1n]; show 0 ≤ flg (M 1) c ∧ flg (M 1) c ≤ 3; omega)) (by decide) (by decide) (lw_V q1633 q1635 qs55 q110 q1636) pd_X3_isLearnt rfl (Nat.le_of_ble_eq_true rfl) (Nat.le_refl _) (Nat.le_refl _) dX3_isRefused_25 (fun v25 M' h hv25 hT => ?_)
              obtain ⟨hv25, rfl⟩ := hv25
              have hv25' : v25 = if flg (M 1) c = 1 ∨ flg (M 1) c = 3 then 1 else 0 := by rw [e1n] at hv25; exact hv25
              have z25 := z01 hv25'
              refine j_if_eq F 35 (by decide) (by omega) dX3_isRefused_28 (fun c28 => ?_) (fun c28 => ?_)
              · skip
                have hnle : ¬ (flg (M 1) c = 1 ∨ flg (M 1) c = 3) := by split at hv25' <;> omega
                have hcl9 : ∀ s : Int → Int, clo M L K s → gcl s (lit (M 1) c) (siz (M 1) c) := fun s hs => hs.1 c hc0 (by omega) hnle
                have hst := df_step hR hIv hc0 (by omega) hcl9
                have hdr := drv_rg (opn (N1 1) (N1 5) c)
                refine j_aload_n F rfl dX3_isRefused_35 ?_
                refine j_iload F rfl dX3_isRefused_36 ?_
                refine t_callI F hT (ct_X3_drawsFrom l G KS x N1 (c := c) hRn hIv.2.1 (by rw [e1n]; omega) hst.2.2.2.2) (by decide) (by decide) (lw_V q1804 q1806 qs85 q110 q1807) pd_X3_drawsFrom rfl (Nat.le_of_ble_eq_true rfl) (Nat.le_refl _) (Nat.le_refl _) dX3_isRefused_38 (fun v38 M38 h hv38 hT => ?_)
                obtain ⟨e38, q38⟩ := hv38
                subst e38 q38
                refine j_istore F (by decide) dX3_isRefused_41 ?_
                refine j_iload F rfl dX3_isRefused_43 ?_
                refine j_iconst F dX3_isRefused_45 ?_
                refine j_icmp_ne F 51 (by decide) (by omega) (by omega) dX3_isRefused_46 (fun c46 => ?_) (fun c46 => ?_)
                · skip
                  have hd2 : opn (N1 1) (N1 5) c ≠ 0 := fun q => c46 (drv_2.mpr q)
                  refine j_joinT (x := x) (M := dfM N1 c) (G := G) (h0 := h0) 66 (fun w => w = if mr = 1 ∨ drv (opn (N1 1) (N1 5) c) = 1 then 1 else 0) (fun w h hw hT => ?_) (fun Kj51 => ?_)
                  · skip
                    refine j_istore_n F (by decide) dX3_isRefused_66 ?_
                    refine j_iinc F rfl (by decide) dX3_isRefused_67 ?_
                    refine j_goto F 11 (by decide) dX3_isRefused_70 ?_
                    refine j_lv (lv' := [(0, .ref x), (1, vI L), (2, vI K), (3, vI w), (4, vI (c + 1))]) ⟨rfl, rfl, rfl, rfl, rfl, trivial⟩ ?_
                    exact ih11 w (c + 1) _ _ ⟨by omega, by omega, hSw.step hst.1 hst.2.1 hst.2.2.1 (fun q => ⟨hst.2.2.2.1 q, fun e0 hP d d0 d1 hd => by
                      by_cases e : d = c
                      · rw [e, ← e0]
                        refine ⟨?_, ?_⟩
                        · intro z; exact hd2 (by rw [e1n]; exact z)
                        · intro z; exact q (drv_1.mpr (by rw [e1n]; exact z))
                      · exact hP d d0 (by omega) hd⟩) hw⟩ (by omega) hT
                  · skip
                    refine j_iload_n F rfl dX3_isRefused_51 ?_
                    refine j_if_ne F 61 (by decide) (by omega) dX3_isRefused_52 (fun c52 => ?_) (fun c52 => ?_)
                    · skip
                      refine j_iconst F dX3_isRefused_61 ?_
                      refine j_goto F 66 (by decide) dX3_isRefused_62 ?_
                      exact Kj51 _ _ (by first | rw [if_pos (by omega)] | rw [if_neg (by omega)]) hT
                    · skip
                      refine j_iload F rfl dX3_isRefused_55 ?_
                      refine j_iconst F dX3_isRefused_57 ?_
                      refine j_icmp_ne F 65 (by decide) (by omega) (by omega) dX3_isRefused_58 (fun c58 => ?_) (fun c58 => ?_)
                      · skip
                        refine j_iconst F dX3_isRefused_65 ?_
                        exact Kj51 _ _ (by first | rw [if_pos (by omega)] | rw [if_neg (by omega)]) hT
                      · skip
                        refine j_iconst F dX3_isRefused_61 ?_
                        refine j_goto F 66 (by decide) dX3_isRefused_62 ?_
                        exact Kj51 _ _ (by first | rw [if_pos (by omega)] | rw [if_neg (by omega)]) hT
                · skip
                  have hno : Rfd M L K (M 5) := hIv.no (hR.cl hc0 (by omega)).2.2.2.2 (by have := drv_2.mp c46; rw [e1n] at this; exact this) hcl9
                  refine j_iconst F dX3_isRefused_49 ?_
                  exact j_zret F E (by omega) (Nat.zero_le _) (Nat.zero_le _) dX3_isRefused_50 (ti_post hT ⟨Or.inr rfl, ⟨fun _ => hno, fun _ => rfl⟩, hst.1.2.2.1, hst.1.2.1⟩)
              · skip
                have hle : flg (M 1) c = 1 ∨ flg (M 1) c = 3 := by split at hv25' <;> omega
                refine j_iconst F dX3_isRefused_31 ?_
                refine j_goto F 41 (by decide) dX3_isRefused_32 ?_
                refine j_istore F (by decide) dX3_isRefused_41 ?_
                refine j_iload F rfl dX3_isRefused_43 ?_
                refine j_iconst F dX3_isRefused_45 ?_
                refine j_icmp_ne F 51 (by decide) (by omega) (by omega) dX3_isRefused_46 (fun c46 => ?_) (fun c46 => ?_)
                · skip
                  refine j_joinT (x := x) (M := N1) (G := G) (h0 := h0) 66 (fun w => w = if mr = 1 ∨ (0 : Int) = 1 then 1 else 0) (fun w h hw hT => ?_) (fun Kj51 => ?_)
                  · skip
                    refine j_istore_n F (by decide) dX3_isRefused_66 ?_
                    refine j_iinc F rfl (by decide) dX3_isRefused_67 ?_
                    refine j_goto F 11 (by decide) dX3_isRefused_70 ?_
                    refine j_lv (lv' := [(0, .ref x), (1, vI L), (2, vI K), (3, vI w), (4, vI (c + 1))]) ⟨rfl, rfl, rfl, rfl, rfl, trivial⟩ ?_
                    exact ih11 w (c + 1) _ _ ⟨by omega, by omega, hSw.step (how := 0) hIv (Int.le_refl _) (fun q => absurd q (by omega)) (fun _ => ⟨rfl, fun _ hP d d0 d1 hd => by
                      by_cases e : d = c
                      · rw [e] at hd; exact absurd hle hd
                      · exact hP d d0 (by omega) hd⟩) hw⟩ (by omega) hT
                  · skip
                    refine j_iload_n F rfl dX3_isRefused_51 ?_
                    refine j_if_ne F 61 (by decide) (by omega) dX3_isRefused_52 (fun c52 => ?_) (fun c52 => ?_)
                    · skip
                      refine j_iconst F dX3_isRefused_61 ?_
                      refine j_goto F 66 (by decide) dX3_isRefused_62 ?_
                      exact Kj51 _ _ (by first | rw [if_pos (by omega)] | rw [if_neg (by omega)]) hT
                    · skip
                      refine j_iload F rfl dX3_isRefused_55 ?_
                      refine j_iconst F dX3_isRefused_57 ?_
                      refine j_icmp_ne F 65 (by decide) (by omega) (by omega) dX3_isRefused_58 (fun c58 => ?_) (fun c58 => ?_)
                      · skip
                        refine j_iconst F dX3_isRefused_65 ?_
                        exact Kj51 _ _ (by first | rw [if_pos (by omega)] | rw [if_neg (by omega)]) hT
                      · skip
                        refine j_iconst F dX3_isRefused_61 ?_
                        refine j_goto F 66 (by decide) dX3_isRefused_62 ?_
                        exact Kj51 _ _ (by first | rw [if_pos (by omega)] | rw [if_neg (by omega)]) hT
                · skip
                  exact absurd c46 (by omega)
        refine j_lv (lv' := [(0, .ref x), (1, vI L), (2, vI K), (3, vI 0), (4, vI 0)]) ⟨rfl, rfl, rfl, rfl, rfl, trivial⟩ ?_
        exact L11 _ 0 0 _ _ ⟨by omega, by omega, Or.inl rfl, hO1, Int.le_refl _, fun _ => ⟨rfl, fun d d0 d1 => by omega⟩, fun q => absurd q (by omega)⟩ (Nat.lt_succ_self _) hT
  refine j_lv (lv' := [(0, .ref x), (1, vI L), (2, vI K), (3, vI 1)]) ⟨rfl, rfl, rfl, rfl, trivial⟩ ?_
  exact L2 _ 1 _ _ ⟨Or.inr rfl, ⟨hT0, hTR, fun _ _ _ _ _ _ _ => rfl, fun v v0 v1 _ => rfl, fun s _ he _ => he⟩, fun q => absurd q (by omega)⟩ (Nat.lt_succ_self _) hT
