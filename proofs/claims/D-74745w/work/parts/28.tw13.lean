theorem and9_255 (b : Int) : and9 b 255 = b % 256 := by
  unfold and9
  rw [pk_and (Int32.ofInt b) (m := Int32.ofInt 255) 8 (by decide)]
  have h2 : (Int32.ofInt b).toBitVec.toNat % 2 ^ 8 < 256 := Nat.mod_lt _ (by decide)
  rw [nI_toInt (by omega)]
  have e : (Int32.ofInt b).toBitVec.toNat = (b % 4294967296).toNat := by
    rw [Int32.toBitVec_ofInt, BitVec.toNat_ofInt]
    rfl
  rw [e]
  omega
theorem and9_by {b : Int} (h : -128 ≤ b ∧ b ≤ 127) : and9 b 255 = if b < 0 then b + 256 else b := by
  rw [and9_255]
  split <;> omega
/-- the sign at hand is a digit, in two ways -/
theorem hrv_in {T : Int → Int} (hT : by8 T) {n p a b : Int} (hp : 0 ≤ p) (hn : n ≤ 400) (ha : 0 ≤ a) (hb : b ≤ 127) : (a ≤ hrv T n p ∧ hrv T n p ≤ b) ↔ (sk T n p < n ∧ a ≤ T (sk T n p) ∧ T (sk T n p) ≤ b) := by
  have h1 := sk_rg T n p
  unfold hrv
  by_cases q : sk T n p < n
  · have h2 := hT (sk T n p) (by omega) (by omega)
    rw [if_pos q, and9_by h2]
    split <;> omega
  · rw [if_neg q]
    omega
/-- digits are passed over -/
def dgF (T : Int → Int) (n : Int) : Nat → Int → Int
  | 0, p => p
  | f + 1, p => if p < n ∧ 48 ≤ T p ∧ T p ≤ 57 then dgF T n f (p + 1) else p
def dg (T : Int → Int) (n p : Int) : Int := dgF T n (n - p).toNat p
theorem dg_in {T : Int → Int} {n p : Int} (h : p < n ∧ 48 ≤ T p ∧ T p ≤ 57) : dg T n p = dg T n (p + 1) := by
  unfold dg
  rw [show (n - p).toNat = (n - (p + 1)).toNat + 1 by omega, dgF, if_pos h]
theorem dg_out {T : Int → Int} {n p : Int} (h : ¬ (p < n ∧ 48 ≤ T p ∧ T p ≤ 57)) : dg T n p = p := by
  unfold dg
  cases (n - p).toNat with
  | zero => rfl
  | succ f => rw [dgF, if_neg h]
theorem dgF_rg (T : Int → Int) (n : Int) : ∀ (f : Nat) (p : Int), p ≤ dgF T n f p ∧ (p ≤ n → dgF T n f p ≤ n)
  | 0, p => by simp [dgF]
  | f + 1, p => by
    unfold dgF
    split
    · rename_i q
      have := dgF_rg T n f (p + 1)
      exact ⟨by omega, fun h => this.2 (by omega)⟩
    · exact ⟨Int.le_refl _, id⟩
theorem dg_rg (T : Int → Int) (n p : Int) : p ≤ dg T n p ∧ (p ≤ n → dg T n p ≤ n) := dgF_rg T n _ p
theorem dg_gt {T : Int → Int} {n p : Int} (h : n ≤ p) : dg T n p = p := dg_out (by omega)
/-- the number of its first two digits -/
def nvF (T : Int → Int) (p : Int) : Nat → Int
  | 0 => 0
  | i + 1 => if (i : Int) < 2 then 10 * nvF T p i + T (p + i) - 48 else nvF T p i
theorem nvF_s {T : Int → Int} {p i : Int} (hi : 0 ≤ i) : nvF T p (i + 1).toNat = if i < 2 then 10 * nvF T p i.toNat + T (p + i) - 48 else nvF T p i.toNat := by
  have e : (i + 1).toNat = i.toNat + 1 := by omega
  rw [e, nvF, Int.toNat_of_nonneg hi]
theorem nvF_2 {T : Int → Int} {p : Int} : ∀ n : Nat, nvF T p (n + 2) = nvF T p 2
  | 0 => rfl
  | n + 1 => by
    rw [show n + 1 + 2 = (n + 2) + 1 by omega, nvF, if_neg (by omega)]
    exact nvF_2 n
theorem nvF_rg {T : Int → Int} {p : Int} : ∀ n : Nat, (∀ i : Int, p ≤ i → i < p + n → 48 ≤ T i ∧ T i ≤ 57) → 0 ≤ nvF T p n ∧ nvF T p n ≤ 99
  | 0, _ => by simp [nvF]
  | 1, h => by
    have := h p (by omega) (by omega)
    show 0 ≤ 10 * 0 + T (p + 0) - 48 ∧ 10 * 0 + T (p + 0) - 48 ≤ 99
    rw [show p + 0 = p by omega]
    omega
  | n + 2, h => by
    rw [nvF_2]
    have h1 := h p (by omega) (by omega)
    have h2 := h (p + 1) (by omega) (by omega)
    show 0 ≤ 10 * (10 * 0 + T (p + 0) - 48) + T (p + 1) - 48 ∧ 10 * (10 * 0 + T (p + 0) - 48) + T (p + 1) - 48 ≤ 99
    rw [show p + 0 = p by omega]
    omega
theorem dg_dig (T : Int → Int) (n : Int) : ∀ (f : Nat) (p : Int), (n - p).toNat ≤ f → ∀ i : Int, p ≤ i → i < dg T n p → 48 ≤ T i ∧ T i ≤ 57 := by
  intro f
  induction f with
  | zero =>
    intro p hp i h1 h2
    rw [dg_gt (by omega)] at h2
    omega
  | succ f ih =>
    intro p hp i h1 h2
    by_cases q : p < n ∧ 48 ≤ T p ∧ T p ≤ 57
    · rw [dg_in q] at h2
      by_cases e : i = p
      · rw [e]; omega
      · exact ih (p + 1) (by omega) i (by omega) h2
    · rw [dg_out q] at h2
      omega
theorem nv_rg (T : Int → Int) (n p : Int) : 0 ≤ nvF T p (dg T n p - p).toNat ∧ nvF T p (dg T n p - p).toNat ≤ 99 := nvF_rg _ (fun i h1 h2 => dg_dig T n _ p (Nat.le_refl _) i h1 (by have := (dg_rg T n p).1; omega))
theorem hr_hr (M : Mt) : hr (hrM M) = hr M := hrv_sk _ _ _
theorem hrM_hrM (M : Mt) : hrM (hrM M) = hrM M := by
  unfold hrM
  rw [oM_oM]
  show oM M 24 0 (sk (M 21) (M 23 0) (sk (M 21) (M 23 0) (M 24 0))) = _
  rw [sk_sk]
theorem TX.hr {M : Mt} (h : TX M) : TX (hrM M) := by
  obtain ⟨h1, h2, h3, h4, h5, h6⟩ := h
  have q := sk_rg (M 21) (M 23 0) (M 24 0)
  refine ⟨h1, h2, h3, ?_, h5, h6⟩
  show 0 ≤ sk (M 21) (M 23 0) (M 24 0) ∧ sk (M 21) (M 23 0) (M 24 0) ≤ 1000
  by_cases e : M 24 0 ≤ M 23 0
  · have := q.2 e; omega
  · rw [sk_gt (by omega)]; omega
/-- a text's place moves to p -/
theorem TX.at {M : Mt} (h : TX M) {p : Int} (hp : 0 ≤ p ∧ p ≤ 1000) : TX (oM M 24 0 p) := by
  obtain ⟨h1, h2, h3, h4, h5, h6⟩ := h
  exact ⟨h1, h2, h3, hp, h5, h6⟩
theorem TX.fl {M : Mt} (h : TX M) {k w : Int} (hk : 0 ≤ k ∧ k ≤ 7) (hw : 0 ≤ w ∧ w ≤ 1000) : TX (flM M k w) := by
  obtain ⟨h1, h2, h3, h4, h5, h6⟩ := h
  unfold flM
  split
  · refine ⟨h1, h2, h3, h4, ?_, h6⟩
    show 0 ≤ k + 8 * w ∧ k + 8 * w ≤ 100000
    omega
  · exact ⟨h1, h2, h3, h4, h5, h6⟩
def clM (M : Mt) : Mt := sM M 26 (fun v => if 0 ≤ v ∧ v < 31 then 0 else M 26 v)
/-- a number's end, its begin, its value; what is left -/
def nuB (M : Mt) : Int := sk (M 21) (M 23 0) (M 24 0)
def nuE (M : Mt) : Int := dg (M 21) (M 23 0) (nuB M)
def nuV (M : Mt) : Int := nvF (M 21) (nuB M) (nuE M - nuB M).toNat
def nuM (M : Mt) : Mt := if 1 ≤ nuE M - nuB M ∧ nuE M - nuB M ≤ 2 then oM M 24 0 (nuE M) else flM (oM M 24 0 (nuE M)) 1 (nuB M)
def esM (M : Mt) : Mt := if M 25 0 = 0 then (if hr M = 59 then oM M 24 0 (nuB M + 1) else oM (flM (hrM M) 1 (nuB M)) 24 0 (nuB M + 1)) else oM M 24 0 (M 24 0 + 1)
theorem pd_X3_clearsTold : yX3_clearsTold.cls = RX3 ∧ yX3_clearsTold.cls ≠ "java/lang/invoke/MethodHandle" ∧ yX3_clearsTold.cls ≠ "java/lang/invoke/VarHandle" ∧ (parseMethodDescriptor yX3_clearsTold.desc).map (fun d => d.parameters.length) = some 0 := by decide +kernel
theorem ct_X3_clearsTold (l : Launch) (G : Gt) (KS : Ks l G) (x : Nat) (M : Mt) : TV l G yX3_clearsTold cX3_clearsTold 2 1 x [] M (fun M' => M' = clM M) := by
  intro h0 h hT
  refine ct_of KS (by decide) (Nat.le_of_ble_eq_true rfl) (fun X F E => ?_)
  refine j_lv (lv' := [(0, .ref x)]) ⟨rfl, trivial⟩ ?_
  refine j_iconst F dX3_clearsTold_0 ?_
  refine j_istore_n F (by decide) dX3_clearsTold_1 ?_
  have L2 : ∀ (m2 : Nat) (i : Int) (N : Mt) (h : Hp), (0 ≤ i ∧ i ≤ 31 ∧ N = sM M 26 (fun v => if 0 ≤ v ∧ v < i then 0 else M 26 v)) → (31 - i).toNat < m2 → Tw G x N h0 h → J X h 2 [(0, .ref x), (1, vI i)] [] 0 0 := by
    intro m2
    induction m2 with
    | zero => intro i N h hI hm2 hT; exact absurd hm2 (Nat.not_lt_zero _)
    | succ m2 ih2 =>
      intro i N h hI hm2 hT
      obtain ⟨hI0, hI1, hI2⟩ := hI
      refine j_iload_n F rfl dX3_clearsTold_2 ?_
      refine j_bipush F (by decide) dX3_clearsTold_3 ?_
      refine j_icmp_gt F 21 (by decide) (by omega) (by omega) dX3_clearsTold_5 (fun c5 => ?_) (fun c5 => ?_)
      · skip
        exact j_vret F E (Nat.zero_le _) (Nat.zero_le _) dX3_clearsTold_21 (tv_post hT (by rw [hI2]; unfold clM; rw [show i = 31 by omega]))
      · skip
        refine j_aload_n F rfl dX3_clearsTold_8 ?_
        refine t_get F hT 26 (by decide) rfl q1512 dX3_clearsTold_9 ?_
        refine j_iload_n F rfl dX3_clearsTold_12 ?_
        refine j_iconst F dX3_clearsTold_13 ?_
        refine t_zast F hT 26 tm_26 rfl (by omega) (by omega) dX3_clearsTold_14 (fun h hT => ?_)
        refine j_iinc F rfl (by decide) dX3_clearsTold_15 ?_
        refine j_goto F 2 (by decide) dX3_clearsTold_18 ?_
        refine j_lv (lv' := [(0, .ref x), (1, vI (i + 1))]) ⟨rfl, rfl, trivial⟩ ?_
        exact ih2 (i + 1) _ _ ⟨by omega, by omega, by rw [hI2, oM_sM, clr_s hI0]⟩ (by omega) hT
  refine j_lv (lv' := [(0, .ref x), (1, vI 0)]) ⟨rfl, rfl, trivial⟩ ?_
  exact L2 _ 0 _ _ ⟨by omega, by omega, by rw [show (fun v : Int => if 0 ≤ v ∧ v < 0 then 0 else M 26 v) = M 26 from funext fun v => if_neg (by omega)]; exact (sM_self M 26).symm⟩ (Nat.lt_succ_self _) hT

theorem pd_X3_isLit : yX3_isLit.cls = RX3 ∧ yX3_isLit.cls ≠ "java/lang/invoke/MethodHandle" ∧ yX3_isLit.cls ≠ "java/lang/invoke/VarHandle" ∧ (parseMethodDescriptor yX3_isLit.desc).map (fun d => d.parameters.length) = some 0 := by decide +kernel
theorem ct_X3_isLit (l : Launch) (G : Gt) (KS : Ks l G) (x : Nat) (M : Mt) (hX : TX M) : TI l G yX3_isLit cX3_isLit 1 (some FieldType.boolean) 3 x [] M (fun v M' => (v = if hr M = 45 ∨ (48 ≤ hr M ∧ hr M ≤ 57) then 1 else 0) ∧ M' = hrM M) := by
  intro h0 h hT
  refine ct_of KS (by decide) (Nat.le_of_ble_eq_true rfl) (fun X F E => ?_)
  refine j_lv (lv' := [(0, .ref x)]) ⟨rfl, trivial⟩ ?_
  refine j_aload_n F rfl dX3_isLit_0 ?_
  refine t_callI F hT (ct_X3_here l G KS x M hX) (by decide) (by decide) (lw_V q1820 q1822 qs88 q110 q1823) pd_X3_here rfl (Nat.le_of_ble_eq_true rfl) (Nat.le_refl _) (Nat.le_refl _) dX3_isLit_1 (fun v1 M1 h hv1 hT => ?_)
  obtain ⟨e1, e2⟩ := hv1
  subst e1 e2
  have hg := hrv_rg (M 21) (M 23 0) (M 24 0)
  have hg9 : -1 ≤ hr M ∧ hr M ≤ 255 := hg
  refine j_bipush F (by decide) dX3_isLit_4 ?_
  refine j_icmp_eq F 16 (by decide) (by omega) (by omega) dX3_isLit_6 (fun c6 => ?_) (fun c6 => ?_)
  · skip
    refine j_iconst F dX3_isLit_16 ?_
    refine j_goto F 21 (by decide) dX3_isLit_17 ?_
    exact j_zret F E (by omega) (Nat.zero_le _) (Nat.zero_le _) dX3_isLit_21 (ti_post hT ⟨by first | rw [if_pos (by omega)] | (split at hv10 <;> split <;> omega), rfl⟩)
  · skip
    refine j_aload_n F rfl dX3_isLit_9 ?_
    refine t_callI F hT (ct_X3_isDigit l G KS x _ hX.hr) (by decide) (by decide) (lw_V q1840 q1842 qs93 q110 q1843) pd_X3_isDigit rfl (Nat.le_of_ble_eq_true rfl) (Nat.le_refl _) (Nat.le_refl _) dX3_isLit_10 (fun v10 M10 h hv10 hT => ?_)
    obtain ⟨hv10, e10⟩ := hv10
    rw [hr_hr] at hv10
    rw [hrM_hrM] at e10
    subst e10
    have z10 := z01 hv10
    refine j_if_eq F 20 (by decide) (by omega) dX3_isLit_13 (fun c13 => ?_) (fun c13 => ?_)
    · skip
      refine j_iconst F dX3_isLit_20 ?_
      exact j_zret F E (by omega) (Nat.zero_le _) (Nat.zero_le _) dX3_isLit_21 (ti_post hT ⟨by first | rw [if_pos (by omega)] | (split at hv10 <;> split <;> omega), rfl⟩)
    · skip
      refine j_iconst F dX3_isLit_16 ?_
      refine j_goto F 21 (by decide) dX3_isLit_17 ?_
      exact j_zret F E (by omega) (Nat.zero_le _) (Nat.zero_le _) dX3_isLit_21 (ti_post hT ⟨by first | rw [if_pos (by omega)] | (split at hv10 <;> split <;> omega), rfl⟩)

theorem pd_X3_endsStatement : yX3_endsStatement.cls = RX3 ∧ yX3_endsStatement.cls ≠ "java/lang/invoke/MethodHandle" ∧ yX3_endsStatement.cls ≠ "java/lang/invoke/VarHandle" ∧ (parseMethodDescriptor yX3_endsStatement.desc).map (fun d => d.parameters.length) = some 0 := by decide +kernel
theorem ct_X3_endsStatement (l : Launch) (G : Gt) (KS : Ks l G) (x : Nat) (M : Mt) (hX : TX M) : TV l G yX3_endsStatement cX3_endsStatement 1 2 x [] M (fun M' => M' = esM M) := by
  intro h0 h hT
  refine ct_of KS (by decide) (Nat.le_of_ble_eq_true rfl) (fun X F E => ?_)
  refine j_lv (lv' := [(0, .ref x)]) ⟨rfl, trivial⟩ ?_
  have hX' := hX
  obtain ⟨hX1, hX2, hX3, hX4, hX5, hX6⟩ := hX
  refine j_aload_n F rfl dX3_endsStatement_0 ?_
  refine t_get F hT 25 (by decide) rfl q1511 dX3_endsStatement_1 ?_
  refine j_if_ne F 25 (by decide) (by omega) dX3_endsStatement_4 (fun c4 => ?_) (fun c4 => ?_)
  · skip
    refine j_aload_n F rfl dX3_endsStatement_25 ?_
    refine j_dup F rfl dX3_endsStatement_26 ?_
    refine t_get F hT 24 (by decide) (v := vI (M 24 0)) rfl q1510 dX3_endsStatement_27 ?_
    refine j_iconst F dX3_endsStatement_30 ?_
    refine j_iadd F dX3_endsStatement_31 ?_
    refine t_put F hT 24 (by decide) rfl rfl rfl (by decide) q1510 dX3_endsStatement_32 (fun h hT => ?_)
    exact j_vret F E (Nat.zero_le _) (Nat.zero_le _) dX3_endsStatement_35 (tv_post hT (by unfold esM; rw [if_neg (by omega)]))
  · skip
    refine j_aload_n F rfl dX3_endsStatement_7 ?_
    refine t_callI F hT (ct_X3_here l G KS x M hX') (by decide) (by decide) (lw_V q1820 q1822 qs88 q110 q1823) pd_X3_here rfl (Nat.le_of_ble_eq_true rfl) (Nat.le_refl _) (Nat.le_refl _) dX3_endsStatement_8 (fun v8 M8 h hv8 hT => ?_)
    obtain ⟨e1, e2⟩ := hv8
    subst e1 e2
    have hg9 : -1 ≤ hr M ∧ hr M ≤ 255 := hrv_rg (M 21) (M 23 0) (M 24 0)
    refine j_bipush F (by decide) dX3_endsStatement_11 ?_
    refine j_icmp_eq F 25 (by decide) (by omega) (by omega) dX3_endsStatement_13 (fun c13 => ?_) (fun c13 => ?_)
    · skip
      refine j_aload_n F rfl dX3_endsStatement_25 ?_
      refine j_dup F rfl dX3_endsStatement_26 ?_
      refine t_get F hT 24 (by decide) (v := vI (nuB M)) rfl q1510 dX3_endsStatement_27 ?_
      refine j_iconst F dX3_endsStatement_30 ?_
      refine j_iadd F dX3_endsStatement_31 ?_
      refine t_put F hT 24 (by decide) rfl rfl rfl (by decide) q1510 dX3_endsStatement_32 (fun h hT => ?_)
      exact j_vret F E (Nat.zero_le _) (Nat.zero_le _) dX3_endsStatement_35 (tv_post hT (by unfold esM; rw [if_pos (by omega), if_pos (by omega)]; exact oM_oM M 24 0 _ _))
    · skip
      refine j_aload_n F rfl dX3_endsStatement_16 ?_
      refine j_iconst F dX3_endsStatement_17 ?_
      refine j_aload_n F rfl dX3_endsStatement_18 ?_
      refine t_get F hT 24 (by decide) (v := vI (nuB M)) rfl q1510 dX3_endsStatement_19 ?_
      refine t_callV F hT (ct_X3_fails l G KS x _ (k := 1) (w := nuB M) (by show rg (M 25 0); unfold rg; omega)) (by decide) (by decide) (lw_V q1832 q1834 qs91 q110 q1835) pd_X3_fails rfl (Nat.le_of_ble_eq_true rfl) (Nat.le_refl _) (Nat.le_refl _) dX3_endsStatement_22 (fun M22 h hv22 hT => ?_)
      subst hv22
      have e24 : flM (hrM M) 1 (nuB M) 24 0 = nuB M := by unfold flM; split <;> rfl
      refine j_aload_n F rfl dX3_endsStatement_25 ?_
      refine j_dup F rfl dX3_endsStatement_26 ?_
      refine t_get F hT 24 (by decide) (v := vI (nuB M)) (congrArg (fun z => some (vI z)) e24) q1510 dX3_endsStatement_27 ?_
      refine j_iconst F dX3_endsStatement_30 ?_
      refine j_iadd F dX3_endsStatement_31 ?_
      refine t_put F hT 24 (by decide) rfl rfl rfl (by decide) q1510 dX3_endsStatement_32 (fun h hT => ?_)
      exact j_vret F E (Nat.zero_le _) (Nat.zero_le _) dX3_endsStatement_35 (tv_post hT (by unfold esM; rw [if_pos (by omega), if_neg (by omega)]))

theorem pd_X3_number : yX3_number.cls = RX3 ∧ yX3_number.cls ≠ "java/lang/invoke/MethodHandle" ∧ yX3_number.cls ≠ "java/lang/invoke/VarHandle" ∧ (parseMethodDescriptor yX3_number.desc).map (fun d => d.parameters.length) = some 0 := by decide +kernel
theorem ct_X3_number (l : Launch) (G : Gt) (KS : Ks l G) (x : Nat) (M : Mt) (hX : TX M) : TI l G yX3_number cX3_number 4 (some FieldType.int) 3 x [] M (fun v M' => v = nuV M ∧ M' = nuM M) := by
  intro h0 h hT
  refine ct_of KS (by decide) (Nat.le_of_ble_eq_true rfl) (fun X F E => ?_)
  refine j_lv (lv' := [(0, .ref x)]) ⟨rfl, trivial⟩ ?_
  have hX' := hX
  obtain ⟨hX1, hX2, hX3, hX4, hX5, hX6⟩ := hX
  have hB : 0 ≤ nuB M ∧ nuB M ≤ 1000 := hX'.hr.2.2.2.1
  have hE := dg_rg (M 21) (M 23 0) (nuB M)
  refine j_aload_n F rfl dX3_number_0 ?_
  refine t_callI F hT (ct_X3_isDigit l G KS x M hX') (by decide) (by decide) (lw_V q1840 q1842 qs93 q110 q1843) pd_X3_isDigit rfl (Nat.le_of_ble_eq_true rfl) (Nat.le_refl _) (Nat.le_refl _) dX3_number_1 (fun v1 M1 h hv1 hT => ?_)
  obtain ⟨hv1, hq1⟩ := hv1
  have z1 := z01 hv1
  have hdi := hrv_in (n := M 23 0) (p := M 24 0) (a := 48) (b := 57) hX1 hX4.1 hX3.2 (by omega) (by omega)
  refine j_istore_n F (by decide) dX3_number_4 ?_
  refine j_aload_n F rfl dX3_number_5 ?_
  refine t_get F hT 24 (by decide) (v := vI (nuB M)) (by rw [hq1]; rfl) q1510 dX3_number_6 ?_
  refine j_istore_n F (by decide) dX3_number_9 ?_
  refine j_iconst F dX3_number_10 ?_
  refine j_istore_n F (by decide) dX3_number_11 ?_
  have L12 : ∀ (m12 : Nat) (v e : Int) (N : Mt) (h : Hp), (nuB M ≤ e ∧ e ≤ 1000 ∧ v = nvF (M 21) (nuB M) (e - nuB M).toNat ∧ dg (M 21) (M 23 0) e = nuE M ∧ (0 ≤ v ∧ v ≤ 99) ∧ (v1 = 0 → e = nuB M) ∧ N = oM M 24 0 e) → (M 23 0 - e).toNat < m12 → Tw G x N h0 h → J X h 12 [(0, .ref x), (1, vI v1), (2, vI (nuB M)), (3, vI v)] [] 0 0 := by
    intro m12
    induction m12 with
    | zero => intro v e N h hI hm12 hT; exact absurd hm12 (Nat.not_lt_zero _)
    | succ m12 ih12 =>
      intro v e N h hI hm12 hT
      obtain ⟨hI0, hI1, hI2, hI3, hI4, hI5, hI6⟩ := hI
      subst hI6
      refine j_iload_n F rfl dX3_number_12 ?_
      refine j_if_eq F 91 (by decide) (by omega) dX3_number_13 (fun c13 => ?_) (fun c13 => ?_)
      · skip
        have hex : nuE M = e := by rw [← hI3]; exact dg_out (fun q => by have e9 := hI5 c13; rw [e9] at q; exact absurd (hdi.mpr q) (by show ¬ (48 ≤ hr M ∧ hr M ≤ 57); split at hv1 <;> omega))
        refine j_aload_n F rfl dX3_number_91 ?_
        refine t_get F hT 24 (by decide) (v := vI e) rfl q1510 dX3_number_92 ?_
        refine j_iload_n F rfl dX3_number_95 ?_
        refine j_isub F dX3_number_96 ?_
        refine j_iconst F dX3_number_97 ?_
        refine j_iconst F dX3_number_98 ?_
        refine s_callI F (ct_X3_isIn l G KS (a := e - nuB M) (b := 1) (c := 2) (by unfold rg; omega) (by unfold rg; omega) (by unfold rg; omega)) (by decide) (by decide) (lw_S q1598 q1599 q110 q1600) pd_X3_isIn rfl (Nat.le_of_ble_eq_true rfl) (Nat.le_refl _) (Nat.le_refl _) dX3_number_99 (fun v99 hv99 => ?_)
        have z99 := z01 hv99
        refine j_if_ne F 111 (by decide) (by omega) dX3_number_102 (fun c102 => ?_) (fun c102 => ?_)
        · skip
          refine j_iload_n F rfl dX3_number_111 ?_
          exact j_iret F E (Nat.zero_le _) (Nat.zero_le _) dX3_number_112 (ti_post hT ⟨by unfold nuV; rw [hex]; exact hI2, by unfold nuM; rw [hex, if_pos (by split at hv99 <;> omega)]⟩)
        · skip
          refine j_aload_n F rfl dX3_number_105 ?_
          refine j_iconst F dX3_number_106 ?_
          refine j_iload_n F rfl dX3_number_107 ?_
          refine t_callV F hT (ct_X3_fails l G KS x _ (k := 1) (w := nuB M) (by show rg (M 25 0); unfold rg; omega)) (by decide) (by decide) (lw_V q1832 q1834 qs91 q110 q1835) pd_X3_fails rfl (Nat.le_of_ble_eq_true rfl) (Nat.le_refl _) (Nat.le_refl _) dX3_number_108 (fun M108 h hv108 hT => ?_)
          subst hv108
          refine j_iload_n F rfl dX3_number_111 ?_
          exact j_iret F E (Nat.zero_le _) (Nat.zero_le _) dX3_number_112 (ti_post hT ⟨by unfold nuV; rw [hex]; exact hI2, by unfold nuM; rw [hex, if_neg (by split at hv99 <;> omega)]⟩)
      · skip
        refine j_aload_n F rfl dX3_number_16 ?_
        refine t_get F hT 24 (by decide) (v := vI e) rfl q1510 dX3_number_17 ?_
        refine j_aload_n F rfl dX3_number_20 ?_
        refine t_get F hT 23 (by decide) (v := vI (M 23 0)) rfl q1509 dX3_number_21 ?_
        refine j_icmp_ge F 91 (by decide) (by omega) (by omega) dX3_number_24 (fun c24 => ?_) (fun c24 => ?_)
        · skip
          have hex : nuE M = e := by rw [← hI3]; exact dg_gt (by omega)
          refine j_aload_n F rfl dX3_number_91 ?_
          refine t_get F hT 24 (by decide) (v := vI e) rfl q1510 dX3_number_92 ?_
          refine j_iload_n F rfl dX3_number_95 ?_
          refine j_isub F dX3_number_96 ?_
          refine j_iconst F dX3_number_97 ?_
          refine j_iconst F dX3_number_98 ?_
          refine s_callI F (ct_X3_isIn l G KS (a := e - nuB M) (b := 1) (c := 2) (by unfold rg; omega) (by unfold rg; omega) (by unfold rg; omega)) (by decide) (by decide) (lw_S q1598 q1599 q110 q1600) pd_X3_isIn rfl (Nat.le_of_ble_eq_true rfl) (Nat.le_refl _) (Nat.le_refl _) dX3_number_99 (fun v99 hv99 => ?_)
          have z99 := z01 hv99
          refine j_if_ne F 111 (by decide) (by omega) dX3_number_102 (fun c102 => ?_) (fun c102 => ?_)
          · skip
            refine j_iload_n F rfl dX3_number_111 ?_
            exact j_iret F E (Nat.zero_le _) (Nat.zero_le _) dX3_number_112 (ti_post hT ⟨by unfold nuV; rw [hex]; exact hI2, by unfold nuM; rw [hex, if_pos (by split at hv99 <;> omega)]⟩)
          · skip
            refine j_aload_n F rfl dX3_number_105 ?_
            refine j_iconst F dX3_number_106 ?_
            refine j_iload_n F rfl dX3_number_107 ?_
            refine t_callV F hT (ct_X3_fails l G KS x _ (k := 1) (w := nuB M) (by show rg (M 25 0); unfold rg; omega)) (by decide) (by decide) (lw_V q1832 q1834 qs91 q110 q1835) pd_X3_fails rfl (Nat.le_of_ble_eq_true rfl) (Nat.le_refl _) (Nat.le_refl _) dX3_number_108 (fun M108 h hv108 hT => ?_)
            subst hv108
            refine j_iload_n F rfl dX3_number_111 ?_
            exact j_iret F E (Nat.zero_le _) (Nat.zero_le _) dX3_number_112 (ti_post hT ⟨by unfold nuV; rw [hex]; exact hI2, by unfold nuM; rw [hex, if_neg (by split at hv99 <;> omega)]⟩)
        · skip
          have h21 := hX1 e (by omega) (by omega)
          refine j_aload_n F rfl dX3_number_27 ?_
          refine t_get F hT 21 (by decide) rfl q1507 dX3_number_28 ?_
          refine j_aload_n F rfl dX3_number_31 ?_
          refine t_get F hT 24 (by decide) (v := vI e) rfl q1510 dX3_number_32 ?_
          refine t_baldw F hT 21 tm_21 (M 21 e) rfl (by omega) dX3_number_35 ?_
          refine j_bipush F (by decide) dX3_number_36 ?_
          refine j_bipush F (by decide) dX3_number_38 ?_
          refine s_callI F (ct_X3_isIn l G KS (a := M 21 e) (b := 48) (c := 57) (by unfold rg; omega) (by unfold rg; omega) (by unfold rg; omega)) (by decide) (by decide) (lw_S q1598 q1599 q110 q1600) pd_X3_isIn rfl (Nat.le_of_ble_eq_true rfl) (Nat.le_refl _) (Nat.le_refl _) dX3_number_40 (fun v40 hv40 => ?_)
          have z40 := z01 hv40
          refine j_if_eq F 91 (by decide) (by omega) dX3_number_43 (fun c43 => ?_) (fun c43 => ?_)
          · skip
            have hex : nuE M = e := by rw [← hI3]; exact dg_out (by split at hv40 <;> omega)
            refine j_aload_n F rfl dX3_number_91 ?_
            refine t_get F hT 24 (by decide) (v := vI e) rfl q1510 dX3_number_92 ?_
            refine j_iload_n F rfl dX3_number_95 ?_
            refine j_isub F dX3_number_96 ?_
            refine j_iconst F dX3_number_97 ?_
            refine j_iconst F dX3_number_98 ?_
            refine s_callI F (ct_X3_isIn l G KS (a := e - nuB M) (b := 1) (c := 2) (by unfold rg; omega) (by unfold rg; omega) (by unfold rg; omega)) (by decide) (by decide) (lw_S q1598 q1599 q110 q1600) pd_X3_isIn rfl (Nat.le_of_ble_eq_true rfl) (Nat.le_refl _) (Nat.le_refl _) dX3_number_99 (fun v99 hv99 => ?_)
            have z99 := z01 hv99
            refine j_if_ne F 111 (by decide) (by omega) dX3_number_102 (fun c102 => ?_) (fun c102 => ?_)
            · skip
              refine j_iload_n F rfl dX3_number_111 ?_
              exact j_iret F E (Nat.zero_le _) (Nat.zero_le _) dX3_number_112 (ti_post hT ⟨by unfold nuV; rw [hex]; exact hI2, by unfold nuM; rw [hex, if_pos (by split at hv99 <;> omega)]⟩)
            · skip
              refine j_aload_n F rfl dX3_number_105 ?_
              refine j_iconst F dX3_number_106 ?_
              refine j_iload_n F rfl dX3_number_107 ?_
              refine t_callV F hT (ct_X3_fails l G KS x _ (k := 1) (w := nuB M) (by show rg (M 25 0); unfold rg; omega)) (by decide) (by decide) (lw_V q1832 q1834 qs91 q110 q1835) pd_X3_fails rfl (Nat.le_of_ble_eq_true rfl) (Nat.le_refl _) (Nat.le_refl _) dX3_number_108 (fun M108 h hv108 hT => ?_)
              subst hv108
              refine j_iload_n F rfl dX3_number_111 ?_
              exact j_iret F E (Nat.zero_le _) (Nat.zero_le _) dX3_number_112 (ti_post hT ⟨by unfold nuV; rw [hex]; exact hI2, by unfold nuM; rw [hex, if_neg (by split at hv99 <;> omega)]⟩)
          · skip
            have hdd : 48 ≤ M 21 e ∧ M 21 e ≤ 57 := by split at hv40 <;> omega
            have hnx := nvF_s (T := M 21) (p := nuB M) (i := e - nuB M) (by omega)
            rw [show e - nuB M + 1 = e + 1 - nuB M by omega, ← hI2, show nuB M + (e - nuB M) = e by omega] at hnx
            refine j_aload_n F rfl dX3_number_46 ?_
            refine t_get F hT 24 (by decide) (v := vI e) rfl q1510 dX3_number_47 ?_
            refine j_iload_n F rfl dX3_number_50 ?_
            refine j_isub F dX3_number_51 ?_
            refine j_iconst F dX3_number_52 ?_
            refine j_icmp_ge F 76 (by decide) (by omega) (by omega) dX3_number_53 (fun c53 => ?_) (fun c53 => ?_)
            · skip
              rw [if_neg (by omega)] at hnx
              have hvn := hnx.symm
              have hvr := hI4
              refine j_iload_n F rfl dX3_number_76 ?_
              refine j_istore_n F (by decide) dX3_number_77 ?_
              refine j_aload_n F rfl dX3_number_78 ?_
              refine j_dup F rfl dX3_number_79 ?_
              refine t_get F hT 24 (by decide) (v := vI e) rfl q1510 dX3_number_80 ?_
              refine j_iconst F dX3_number_83 ?_
              refine j_iadd F dX3_number_84 ?_
              refine t_put F hT 24 (by decide) rfl rfl rfl (by decide) q1510 dX3_number_85 (fun h hT => ?_)
              refine j_goto F 12 (by decide) dX3_number_88 ?_
              refine j_lv (lv' := [(0, .ref x), (1, vI v1), (2, vI (nuB M)), (3, vI v)]) ⟨rfl, rfl, rfl, rfl, trivial⟩ ?_
              exact ih12 v (e + 1) _ _ ⟨by omega, by omega, hvn, by rw [← hI3]; exact (dg_in ⟨by omega, by omega, by omega⟩).symm, hvr, fun q => by omega, oM_oM M 24 0 _ _⟩ (by omega) hT
            · skip
              rw [if_pos (by omega)] at hnx
              have hvn := hnx.symm
              have hvr : 0 ≤ 10 * v + M 21 e - 48 ∧ 10 * v + M 21 e - 48 ≤ 99 := by
                have hc9 : e = nuB M ∨ e = nuB M + 1 := by omega
                rcases hc9 with q | q
                · rw [q, show nuB M - nuB M = 0 by omega] at hI2
                  have : v = 0 := hI2
                  omega
                · have hb9 := nvF_s (T := M 21) (p := nuB M) (i := 0) (by omega)
                  rw [q, show nuB M + 1 - nuB M = 0 + 1 by omega, hb9, if_pos (by omega)] at hI2
                  have hb8 : v = 10 * 0 + M 21 (nuB M + 0) - 48 := hI2
                  rw [show nuB M + 0 = nuB M by omega] at hb8
                  have hd9 := dg_dig (M 21) (M 23 0) _ (nuB M) (Nat.le_refl _) (nuB M) (by omega) (by show nuB M < nuE M; rw [← hI3, dg_in ⟨by omega, by omega, by omega⟩]; have := (dg_rg (M 21) (M 23 0) (e + 1)).1; omega)
                  omega
              refine j_bipush F (by decide) dX3_number_56 ?_
              refine j_iload_n F rfl dX3_number_58 ?_
              refine j_imul F dX3_number_59 ?_
              refine j_aload_n F rfl dX3_number_60 ?_
              refine t_get F hT 21 (by decide) rfl q1507 dX3_number_61 ?_
              refine j_aload_n F rfl dX3_number_64 ?_
              refine t_get F hT 24 (by decide) (v := vI e) rfl q1510 dX3_number_65 ?_
              refine t_baldw F hT 21 tm_21 (M 21 e) rfl (by omega) dX3_number_68 ?_
              refine j_iadd F dX3_number_69 ?_
              refine j_bipush F (by decide) dX3_number_70 ?_
              refine j_isub F dX3_number_72 ?_
              refine j_goto F 77 (by decide) dX3_number_73 ?_
              refine j_istore_n F (by decide) dX3_number_77 ?_
              refine j_aload_n F rfl dX3_number_78 ?_
              refine j_dup F rfl dX3_number_79 ?_
              refine t_get F hT 24 (by decide) (v := vI e) rfl q1510 dX3_number_80 ?_
              refine j_iconst F dX3_number_83 ?_
              refine j_iadd F dX3_number_84 ?_
              refine t_put F hT 24 (by decide) rfl rfl rfl (by decide) q1510 dX3_number_85 (fun h hT => ?_)
              refine j_goto F 12 (by decide) dX3_number_88 ?_
              refine j_lv (lv' := [(0, .ref x), (1, vI v1), (2, vI (nuB M)), (3, vI (10 * v + M 21 e - 48))]) ⟨rfl, rfl, rfl, rfl, trivial⟩ ?_
              exact ih12 (10 * v + M 21 e - 48) (e + 1) _ _ ⟨by omega, by omega, hvn, by rw [← hI3]; exact (dg_in ⟨by omega, by omega, by omega⟩).symm, hvr, fun q => by omega, oM_oM M 24 0 _ _⟩ (by omega) hT
  refine j_lv (lv' := [(0, .ref x), (1, vI v1), (2, vI (nuB M)), (3, vI 0)]) ⟨rfl, rfl, rfl, rfl, trivial⟩ ?_
  exact L12 _ 0 (nuB M) _ _ ⟨by omega, by omega, by rw [show nuB M - nuB M = 0 by omega]; rfl, rfl, by omega, fun _ => rfl, hq1⟩ (Nat.lt_succ_self _) hT
