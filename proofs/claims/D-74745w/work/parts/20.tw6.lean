/-! bit operations, as they are -/
def and9 (a b : Int) : Int := (Int32.ofInt a &&& Int32.ofInt b).toInt
def ior9 (a b : Int) : Int := (Int32.ofInt a ||| Int32.ofInt b).toInt
def xor9 (a b : Int) : Int := (Int32.ofInt a ^^^ Int32.ofInt b).toInt
def shl9 (a b : Int) : Int := (Int32.ofInt a <<< (Int32.ofInt b &&& 31)).toInt
def shr9 (a b : Int) : Int := (Int32.ofInt a >>> (Int32.ofInt b &&& 31)).toInt
theorem and9_e (a b : Int) : Int32.ofInt a &&& Int32.ofInt b = Int32.ofInt (and9 a b) := (Int32.ofInt_toInt _).symm
theorem ior9_e (a b : Int) : Int32.ofInt a ||| Int32.ofInt b = Int32.ofInt (ior9 a b) := (Int32.ofInt_toInt _).symm
theorem xor9_e (a b : Int) : Int32.ofInt a ^^^ Int32.ofInt b = Int32.ofInt (xor9 a b) := (Int32.ofInt_toInt _).symm
theorem shl9_e (a b : Int) : Int32.ofInt a <<< (Int32.ofInt b &&& 31) = Int32.ofInt (shl9 a b) := (Int32.ofInt_toInt _).symm
theorem shr9_e (a b : Int) : Int32.ofInt a >>> (Int32.ofInt b &&& 31) = Int32.ofInt (shr9 a b) := (Int32.ofInt_toInt _).symm
theorem lub_top {j : Nat} {a : Int} (h : 2 * 2 ^ j - 1 = a) : lubF j a = 2 ^ j := by
  cases j with
  | zero => rfl
  | succ j =>
    have := pw_pos (j + 1)
    rw [lubF, if_neg (by omega), if_pos h.symm]
theorem lub_rec {j : Nat} {a : Int} (h1 : 2 ^ (j + 1) - 1 < a) (h2 : ¬ 2 * 2 ^ (j + 1) - 1 = a) : lubF (j + 1) a = lubF j (a - 2 ^ (j + 1) + 1) := by
  rw [lubF, if_neg (by omega), if_neg (by omega)]
def saM (M : Mt) : Mt := if M 1 5 = 0 ∨ M 16 0 + 1 < M 1 5 * lubF 7 (M 17 0 + 1) then oM M 16 0 (M 16 0 + 1) else lvM (oM (oM (oM (oM M 16 0 (M 16 0 + 1)) 17 0 (M 17 0 + 1)) 16 0 0) 1 11 (M 1 11 + 1)) 0
/-- the model as it is noted: variables below i -/
def mdR (R s : Int → Int) (i : Int) : Int → Int := fun j => if 95 ≤ j ∧ j < 94 + i then (if 0 < s (j - 94) then 1 else 0) else R j
theorem mdR_s {R s : Int → Int} {i w : Int} (hi : 1 ≤ i) (hw : w = if 0 < s i then 1 else 0) : oI (mdR R s i) (94 + i) w = mdR R s (i + 1) := by
  funext j
  unfold oI mdR
  by_cases e : j = 94 + i
  · rw [if_pos e, if_pos (by omega), hw, show j - 94 = i by omega]
  · rw [if_neg e]
    by_cases e2 : 95 ≤ j ∧ j < 94 + i
    · rw [if_pos e2, if_pos (show 95 ≤ j ∧ j < 94 + (i + 1) by omega)]
    · rw [if_neg e2, if_neg (by omega)]
def enM (M : Mt) (how : Int) : Mt := oM (lvM (if how = 1 then oM (sM M 1 (mdR (M 1) (M 5) (M 1 0 + 1))) 1 14 (M 1 0) else M) (-1)) 1 12 how
def rfM (M : Mt) : Mt := if M 1 7 = 0 then oM (oM (oM (oM M 1 13 0) 1 7 1) 1 (925 + M 1 6) (-1)) 1 6 (M 1 6 + 1) else oM M 1 13 0
theorem pd_X3_luby : yX3_luby.cls ≠ "java/lang/invoke/MethodHandle" ∧ yX3_luby.cls ≠ "java/lang/invoke/VarHandle" ∧ (parseMethodDescriptor yX3_luby.desc).map (fun d => d.parameters.length) = some 1 := by decide +kernel
theorem ct_X3_luby_open (l : Launch) (G : Gt) (KS : Ks l G) {a : Int} (n : Nat) (hn : n ≤ 7) (ihl : ∀ (n2 : Nat) (a2 : Int), n2 < n → 1 ≤ a2 → a2 ≤ 2 ^ (n2 + 1) - 1 → SI l G yX3_luby cX3_luby 2 (some FieldType.int) (n2 + 1) [vI a2] (fun v => v = lubF n2 a2)) (ha1 : 1 ≤ a) (ha2 : a ≤ 2 ^ (n + 1) - 1) : SI l G yX3_luby cX3_luby 2 (some FieldType.int) (n + 1) [vI a] (fun v => v = lubF n a) := by
  intro h
  refine ct_of KS (by decide) (Nat.le_of_ble_eq_true rfl) (fun X F E => ?_)
  refine j_lv (lv' := [(0, vI a)]) ⟨rfl, trivial⟩ ?_
  have p7 : (2 : Int) ^ 7 = 128 := by decide
  have hn2 := pw_le hn
  have hsn : (2 : Int) ^ (n + 1) = 2 ^ n * 2 := Int.pow_succ 2 n
  refine j_iconst F dX3_luby_0 ?_
  refine j_istore_n F (by decide) dX3_luby_1 ?_
  have L2 : ∀ (m2 : Nat) (j : Nat), (j ≤ n ∧ (j = 0 ∨ 2 ^ j - 1 < a)) → (n - j) < m2 → J X h 2 [(0, vI a), (1, vI (2 ^ j))] [] 0 0 := by
    intro m2
    induction m2 with
    | zero => intro j hI hm2; exact absurd hm2 (Nat.not_lt_zero _)
    | succ m2 ih2 =>
      intro j hI hm2
      obtain ⟨hI0, hI1⟩ := hI
      have hj := pw_le hI0
      have hj0 := pw_pos j
      have hsj : (2 : Int) ^ (j + 1) = 2 ^ j * 2 := Int.pow_succ 2 j
      refine j_iconst F dX3_luby_2 ?_
      refine j_iload_n F rfl dX3_luby_3 ?_
      refine j_imul F dX3_luby_4 ?_
      refine j_iconst F dX3_luby_5 ?_
      refine j_isub F dX3_luby_6 ?_
      refine j_iload_n F rfl dX3_luby_7 ?_
      refine j_icmp_ge F 18 (by decide) (by omega) (by omega) dX3_luby_8 (fun c8 => ?_) (fun c8 => ?_)
      · skip
        refine j_iconst F dX3_luby_18 ?_
        refine j_iload_n F rfl dX3_luby_19 ?_
        refine j_imul F dX3_luby_20 ?_
        refine j_iconst F dX3_luby_21 ?_
        refine j_isub F dX3_luby_22 ?_
        refine j_iload_n F rfl dX3_luby_23 ?_
        refine j_icmp_ne F 31 (by decide) (by omega) (by omega) dX3_luby_24 (fun c24 => ?_) (fun c24 => ?_)
        · skip
          obtain ⟨j9, rfl⟩ : ∃ j9, j = j9 + 1 := ⟨j - 1, by rcases Nat.eq_zero_or_pos j with e | e; (subst e; exact absurd c24 (by omega)); omega⟩
          have hs9 : (2 : Int) ^ (j9 + 1) = 2 ^ j9 * 2 := Int.pow_succ 2 j9
          refine j_iload_n F rfl dX3_luby_31 ?_
          refine j_iload_n F rfl dX3_luby_32 ?_
          refine j_isub F dX3_luby_33 ?_
          refine j_iconst F dX3_luby_34 ?_
          refine j_iadd F dX3_luby_35 ?_
          refine s_callI F (ihl j9 _ (by omega) (by omega) (by omega)) (by omega) (by decide) (lw_S q1725 q1726 q110 q1727) pd_X3_luby rfl (Nat.le_of_ble_eq_true rfl) (Nat.le_refl _) (Nat.le_refl _) dX3_luby_36 (fun v36 hv36 => ?_)
          exact j_iret F E (Nat.zero_le _) (Nat.zero_le _) dX3_luby_39 ⟨_, rfl, (by first | (rw [hv36, lubF_down (j := j9 + 1) (by omega) n (by omega)]; exact (lub_rec (by omega) (by omega)).symm) | (rw [lubF_down (j := j) (by omega) n (by omega)]; exact (lub_top (by omega)).symm)), rfl⟩
        · skip
          refine j_iload_n F rfl dX3_luby_27 ?_
          refine j_goto F 39 (by decide) dX3_luby_28 ?_
          exact j_iret F E (Nat.zero_le _) (Nat.zero_le _) dX3_luby_39 ⟨_, rfl, (by first | (rw [hv36, lubF_down (j := j9 + 1) (by omega) n (by omega)]; exact (lub_rec (by omega) (by omega)).symm) | (rw [lubF_down (j := j) (by omega) n (by omega)]; exact (lub_top (by omega)).symm)), rfl⟩
      · skip
        have hjn : j ≠ n := fun e => by subst e; omega
        refine j_iload_n F rfl dX3_luby_11 ?_
        refine j_iconst F dX3_luby_12 ?_
        refine j_imul F dX3_luby_13 ?_
        refine j_istore_n F (by decide) dX3_luby_14 ?_
        refine j_goto F 2 (by decide) dX3_luby_15 ?_
        refine j_lv (lv' := [(0, vI a), (1, vI (2 ^ (j + 1)))]) ⟨rfl, rfl, trivial⟩ ?_
        exact ih2 (j + 1) ⟨by omega, Or.inr (by rw [hsj]; omega)⟩ (by omega)
  refine j_lv (lv' := [(0, vI a), (1, vI (2 ^ 0))]) ⟨rfl, rfl, trivial⟩ ?_
  exact L2 _ 0 ⟨by omega, Or.inl rfl⟩ (Nat.lt_succ_self _)

theorem ct_X3_luby (l : Launch) (G : Gt) (KS : Ks l G) {a : Int} (ha : 1 ≤ a ∧ a ≤ 255) : SI l G yX3_luby cX3_luby 2 (some FieldType.int) 8 [vI a] (fun v => v = lubF 7 a) := by
  have key : ∀ (n : Nat), n ≤ 7 → ∀ a : Int, 1 ≤ a → a ≤ 2 ^ (n + 1) - 1 → SI l G yX3_luby cX3_luby 2 (some FieldType.int) (n + 1) [vI a] (fun v => v = lubF n a) := by
    intro n
    induction n using Nat.strongRecOn with
    | ind n ih =>
      intro hn a h1 h2
      exact ct_X3_luby_open l G KS n hn (fun n2 a2 q1 q2 q3 => ih n2 q1 (by omega) a2 q2 q3) h1 h2
  exact key 7 (Nat.le_refl _) a ha.1 (by have : (2 : Int) ^ (7 + 1) = 256 := by decide
                                         omega)

theorem pd_X3_startsAnew : yX3_startsAnew.cls = RX3 ∧ yX3_startsAnew.cls ≠ "java/lang/invoke/MethodHandle" ∧ yX3_startsAnew.cls ≠ "java/lang/invoke/VarHandle" ∧ (parseMethodDescriptor yX3_startsAnew.desc).map (fun d => d.parameters.length) = some 0 := by decide +kernel
theorem ct_X3_startsAnew (l : Launch) (G : Gt) (KS : Ks l G) (x : Nat) (M : Mt) (hR : RI (M 1)) (hTR : TR M) (hsi : 0 ≤ M 16 0 ∧ M 16 0 ≤ 1000) (han : 0 ≤ M 17 0 ∧ M 17 0 ≤ 200) : TV l G yX3_startsAnew cX3_startsAnew 1 9 x [] M (fun M' => M' = saM M) := by
  intro h0 h hT
  refine ct_of KS (by decide) (Nat.le_of_ble_eq_true rfl) (fun X F E => ?_)
  refine j_lv (lv' := [(0, .ref x)]) ⟨rfl, trivial⟩ ?_
  have he := hR.each
  refine j_aload_n F rfl dX3_startsAnew_0 ?_
  refine j_dup F rfl dX3_startsAnew_1 ?_
  refine t_get F hT 16 (by decide) rfl q1502 dX3_startsAnew_2 ?_
  refine j_iconst F dX3_startsAnew_5 ?_
  refine j_iadd F dX3_startsAnew_6 ?_
  refine t_put F hT 16 (by decide) rfl rfl rfl (by decide) q1502 dX3_startsAnew_7 (fun h hT => ?_)
  refine j_aload_n F rfl dX3_startsAnew_10 ?_
  refine t_get F hT 1 (by decide) rfl q1487 dX3_startsAnew_11 ?_
  refine j_iconst F dX3_startsAnew_14 ?_
  refine t_ialdw F hT 1 tm_1 (M 1 5) rfl (by omega) dX3_startsAnew_15 ?_
  refine j_if_eq F 42 (by decide) (by omega) dX3_startsAnew_16 (fun c16 => ?_) (fun c16 => ?_)
  · skip
    exact j_vret F E (Nat.zero_le _) (Nat.zero_le _) dX3_startsAnew_42 (tv_post hT (by unfold saM; rw [if_pos (by omega)]))
  · skip
    refine j_aload_n F rfl dX3_startsAnew_19 ?_
    refine t_get F hT 16 (by decide) (v := vI (M 16 0 + 1)) rfl q1502 dX3_startsAnew_20 ?_
    refine j_aload_n F rfl dX3_startsAnew_23 ?_
    refine t_get F hT 1 (by decide) rfl q1487 dX3_startsAnew_24 ?_
    refine j_iconst F dX3_startsAnew_27 ?_
    refine t_ialdw F hT 1 tm_1 (M 1 5) rfl (by omega) dX3_startsAnew_28 ?_
    refine j_aload_n F rfl dX3_startsAnew_29 ?_
    refine t_get F hT 17 (by decide) (v := vI (M 17 0)) rfl q1503 dX3_startsAnew_30 ?_
    refine j_iconst F dX3_startsAnew_33 ?_
    refine j_iadd F dX3_startsAnew_34 ?_
    refine s_callI F (ct_X3_luby l G KS (a := M 17 0 + 1) (by omega)) (by decide) (by decide) (lw_S q1725 q1726 q110 q1727) pd_X3_luby rfl (Nat.le_of_ble_eq_true rfl) (Nat.le_refl _) (Nat.le_refl _) dX3_startsAnew_35 (fun v35 hv35 => ?_)
    subst hv35
    have hlu := lubF_rg 7 (M 17 0 + 1)
    have p7 : (2 : Int) ^ 7 = 128 := by decide
    rw [p7] at hlu
    have hml : 0 ≤ M 1 5 * lubF 7 (M 17 0 + 1) ∧ M 1 5 * lubF 7 (M 17 0 + 1) ≤ 50 * 128 := ⟨Int.mul_nonneg he.1 (by omega), Int.mul_le_mul he.2 hlu.2 (by omega) (by omega)⟩
    refine j_imul F dX3_startsAnew_38 ?_
    refine j_icmp_ge F 43 (by decide) (by omega) (by omega) dX3_startsAnew_39 (fun c39 => ?_) (fun c39 => ?_)
    · skip
      refine j_aload_n F rfl dX3_startsAnew_43 ?_
      refine j_dup F rfl dX3_startsAnew_44 ?_
      refine t_get F hT 17 (by decide) (v := vI (M 17 0)) rfl q1503 dX3_startsAnew_45 ?_
      refine j_iconst F dX3_startsAnew_48 ?_
      refine j_iadd F dX3_startsAnew_49 ?_
      refine t_put F hT 17 (by decide) rfl rfl rfl (by decide) q1503 dX3_startsAnew_50 (fun h hT => ?_)
      refine j_aload_n F rfl dX3_startsAnew_53 ?_
      refine j_iconst F dX3_startsAnew_54 ?_
      refine t_put F hT 16 (by decide) rfl rfl rfl (by decide) q1502 dX3_startsAnew_55 (fun h hT => ?_)
      refine j_aload_n F rfl dX3_startsAnew_58 ?_
      refine t_get F hT 1 (by decide) rfl q1487 dX3_startsAnew_59 ?_
      refine j_bipush F (by decide) dX3_startsAnew_62 ?_
      refine j_dup2 F rfl rfl dX3_startsAnew_64 ?_
      refine t_ialdw F hT 1 tm_1 (M 1 11) rfl (by omega) dX3_startsAnew_65 ?_
      refine j_iconst F dX3_startsAnew_66 ?_
      refine j_iadd F dX3_startsAnew_67 ?_
      refine t_iast F hT 1 tm_1 rfl (by omega) dX3_startsAnew_68 (fun h hT => ?_)
      refine j_aload_n F rfl dX3_startsAnew_69 ?_
      refine j_iconst F dX3_startsAnew_70 ?_
      refine t_callV F hT (ct_X3_leaves l G KS x _ (b := 0) (by unfold rg; omega) hTR.trd (fun p p0 p1 => hTR.tra p0 (by have := hTR.trd; have q : p < M 10 0 := p1; omega)) (fun v v0 v1 => by have := hTR.lev v0 v1; show rg (M 6 v); unfold rg; omega)) (by decide) (by decide) (lw_V q1669 q1671 qs61 q110 q1672) pd_X3_leaves rfl (Nat.le_of_ble_eq_true rfl) (Nat.le_refl _) (Nat.le_refl _) dX3_startsAnew_71 (fun M71 h hv71 hT => ?_)
      exact j_vret F E (Nat.zero_le _) (Nat.zero_le _) dX3_startsAnew_74 (tv_post hT (by rw [hv71]; unfold saM; rw [if_neg (by omega)]))
    · skip
      exact j_vret F E (Nat.zero_le _) (Nat.zero_le _) dX3_startsAnew_42 (tv_post hT (by unfold saM; rw [if_pos (by omega)]))

theorem pd_X3_ends : yX3_ends.cls = RX3 ∧ yX3_ends.cls ≠ "java/lang/invoke/MethodHandle" ∧ yX3_ends.cls ≠ "java/lang/invoke/VarHandle" ∧ (parseMethodDescriptor yX3_ends.desc).map (fun d => d.parameters.length) = some 1 := by decide +kernel
theorem ct_X3_ends (l : Launch) (G : Gt) (KS : Ks l G) (x : Nat) (M : Mt) {a : Int} (ha : rg a) (hR : RI (M 1)) (hTR : TR M) : TI l G yX3_ends cX3_ends 3 (some FieldType.int) 3 x [vI a] M (fun v M' => v = a ∧ M' = enM M a) := by
  intro h0 h hT
  refine ct_of KS (by decide) (Nat.le_of_ble_eq_true rfl) (fun X F E => ?_)
  refine j_lv (lv' := [(0, .ref x), (1, vI a)]) ⟨rfl, rfl, trivial⟩ ?_
  have hV := hR.V
  unfold rg at ha
  refine j_iload_n F rfl dX3_ends_0 ?_
  refine j_iconst F dX3_ends_1 ?_
  refine j_icmp_ne F 59 (by decide) (by omega) (by omega) dX3_ends_2 (fun c2 => ?_) (fun c2 => ?_)
  · skip
    refine j_aload_n F rfl dX3_ends_59 ?_
    refine j_iconst F dX3_ends_60 ?_
    refine t_callV F hT (ct_X3_leaves l G KS x _ (b := -1) (by unfold rg; omega) hTR.trd (fun p p0 p1 => hTR.tra p0 (by have := hTR.trd; have q : p < M 10 0 := p1; omega)) (fun v v0 v1 => by have := hTR.lev v0 v1; show rg (M 6 v); unfold rg; omega)) (by decide) (by decide) (lw_V q1669 q1671 qs61 q110 q1672) pd_X3_leaves rfl (Nat.le_of_ble_eq_true rfl) (Nat.le_refl _) (Nat.le_refl _) dX3_ends_61 (fun M61 h hv61 hT => ?_)
    refine j_aload_n F rfl dX3_ends_64 ?_
    refine t_get F hT 1 (by decide) rfl q1487 dX3_ends_65 ?_
    refine j_bipush F (by decide) dX3_ends_68 ?_
    refine j_iload_n F rfl dX3_ends_70 ?_
    refine t_iast F hT 1 tm_1 rfl (by omega) dX3_ends_71 (fun h hT => ?_)
    refine j_iload_n F rfl dX3_ends_72 ?_
    exact j_iret F E (Nat.zero_le _) (Nat.zero_le _) dX3_ends_73 (ti_post hT ⟨rfl, by rw [hv61]; unfold enM; first | rw [if_neg c2] | rw [if_pos c2, show M 1 0 + 1 = i by omega]⟩)
  · skip
    refine j_iconst F dX3_ends_5 ?_
    refine j_istore_n F (by decide) dX3_ends_6 ?_
    have L7 : ∀ (m7 : Nat) (i : Int) (N : Mt) (h : Hp), (1 ≤ i ∧ i ≤ M 1 0 + 1 ∧ N = sM M 1 (mdR (M 1) (M 5) i)) → (M 1 0 + 1 - i).toNat < m7 → Tw G x N h0 h → J X h 7 [(0, .ref x), (1, vI a), (2, vI i)] [] 0 0 := by
      intro m7
      induction m7 with
      | zero => intro i N h hI hm7 hT; exact absurd hm7 (Nat.not_lt_zero _)
      | succ m7 ih7 =>
        intro i N h hI hm7 hT
        obtain ⟨hI0, hI1, hI2⟩ := hI
        subst hI2
        have e0 : mdR (M 1) (M 5) i 0 = M 1 0 := if_neg (by omega)
        refine j_iload_n F rfl dX3_ends_7 ?_
        refine j_aload_n F rfl dX3_ends_8 ?_
        refine t_get F hT 1 (by decide) rfl q1487 dX3_ends_9 ?_
        refine j_iconst F dX3_ends_12 ?_
        refine t_ialdw F hT 1 tm_1 (M 1 0) e0 (by omega) dX3_ends_13 ?_
        refine j_icmp_gt F 46 (by decide) (by omega) (by omega) dX3_ends_14 (fun c14 => ?_) (fun c14 => ?_)
        · skip
          refine j_aload_n F rfl dX3_ends_46 ?_
          refine t_get F hT 1 (by decide) rfl q1487 dX3_ends_47 ?_
          refine j_bipush F (by decide) dX3_ends_50 ?_
          refine j_aload_n F rfl dX3_ends_52 ?_
          refine t_get F hT 1 (by decide) rfl q1487 dX3_ends_53 ?_
          refine j_iconst F dX3_ends_56 ?_
          refine t_ialdw F hT 1 tm_1 (M 1 0) e0 (by omega) dX3_ends_57 ?_
          refine t_iast F hT 1 tm_1 rfl (by omega) dX3_ends_58 (fun h hT => ?_)
          refine j_aload_n F rfl dX3_ends_59 ?_
          refine j_iconst F dX3_ends_60 ?_
          refine t_callV F hT (ct_X3_leaves l G KS x _ (b := -1) (by unfold rg; omega) hTR.trd (fun p p0 p1 => hTR.tra p0 (by have := hTR.trd; have q : p < M 10 0 := p1; omega)) (fun v v0 v1 => by have := hTR.lev v0 v1; show rg (M 6 v); unfold rg; omega)) (by decide) (by decide) (lw_V q1669 q1671 qs61 q110 q1672) pd_X3_leaves rfl (Nat.le_of_ble_eq_true rfl) (Nat.le_refl _) (Nat.le_refl _) dX3_ends_61 (fun M61 h hv61 hT => ?_)
          refine j_aload_n F rfl dX3_ends_64 ?_
          refine t_get F hT 1 (by decide) rfl q1487 dX3_ends_65 ?_
          refine j_bipush F (by decide) dX3_ends_68 ?_
          refine j_iload_n F rfl dX3_ends_70 ?_
          refine t_iast F hT 1 tm_1 rfl (by omega) dX3_ends_71 (fun h hT => ?_)
          refine j_iload_n F rfl dX3_ends_72 ?_
          exact j_iret F E (Nat.zero_le _) (Nat.zero_le _) dX3_ends_73 (ti_post hT ⟨rfl, by rw [hv61]; unfold enM; first | rw [if_neg c2] | rw [if_pos c2, show M 1 0 + 1 = i by omega]⟩)
        · skip
          have h5 := hTR.s i (by omega) (by omega)
          refine j_aload_n F rfl dX3_ends_17 ?_
          refine t_get F hT 1 (by decide) rfl q1487 dX3_ends_18 ?_
          refine j_bipush F (by decide) dX3_ends_21 ?_
          refine j_iload_n F rfl dX3_ends_23 ?_
          refine j_iadd F dX3_ends_24 ?_
          refine j_joinT (x := x) (M := sM M 1 (mdR (M 1) (M 5) i)) (G := G) (h0 := h0) 39 (fun w => w = if 0 < M 5 i then 1 else 0) (fun w h hw hT => ?_) (fun Kj25 => ?_)
          · skip
            refine t_iast F hT 1 tm_1 rfl (by omega) dX3_ends_39 (fun h hT => ?_)
            refine j_iinc F rfl (by decide) dX3_ends_40 ?_
            refine j_goto F 7 (by decide) dX3_ends_43 ?_
            refine j_lv (lv' := [(0, .ref x), (1, vI a), (2, vI (i + 1))]) ⟨rfl, rfl, rfl, trivial⟩ ?_
            exact ih7 (i + 1) _ _ ⟨by omega, by omega, by rw [oM_sM, mdR_s hI0 hw]⟩ (by omega) hT
          · skip
            refine j_aload_n F rfl dX3_ends_25 ?_
            refine t_get F hT 5 (by decide) rfl q1491 dX3_ends_26 ?_
            refine j_iload_n F rfl dX3_ends_29 ?_
            refine t_ialdw F hT 5 tm_5 (M 5 i) rfl (by omega) dX3_ends_30 ?_
            refine j_if_le F 38 (by decide) (by omega) dX3_ends_31 (fun c31 => ?_) (fun c31 => ?_)
            · skip
              refine j_iconst F dX3_ends_38 ?_
              exact Kj25 _ _ (by split <;> omega) hT
            · skip
              refine j_iconst F dX3_ends_34 ?_
              refine j_goto F 39 (by decide) dX3_ends_35 ?_
              exact Kj25 _ _ (by split <;> omega) hT
    refine j_lv (lv' := [(0, .ref x), (1, vI a), (2, vI 1)]) ⟨rfl, rfl, rfl, trivial⟩ ?_
    exact L7 _ 1 _ _ ⟨by omega, by omega, by rw [show mdR (M 1) (M 5) 1 = M 1 from funext fun j => if_neg (by omega)]; exact (sM_self M 1).symm⟩ (Nat.lt_succ_self _) hT

theorem TR.row {M : Mt} (h : TR M) (R : Int → Int) : TR (sM M 1 R) := h
theorem TR.row1 {M : Mt} (h : TR M) (i v : Int) : TR (oM M 1 i v) := h
/-- rows that differ in counters and notes alone -/
def RIx (j : Int) : Prop := j = 8 ∨ j = 9 ∨ j = 10 ∨ j = 11 ∨ j = 12 ∨ j = 13 ∨ j = 15 ∨ (94 ≤ j ∧ j < 125)
theorem RI.ext {R R' : Int → Int} (h : RI R) (e : ∀ j : Int, ¬ RIx j → R' j = R j) : RI R' := by
  have e0 : ∀ j : Int, (0 ≤ j ∧ j ≤ 7) ∨ j = 14 ∨ (16 ≤ j ∧ j < 94) ∨ 125 ≤ j → R' j = R j := fun j hj => e j (by unfold RIx; omega)
  have es : ∀ c : Int, 0 ≤ c → siz R' c = siz R c := fun c hc => e0 _ (by omega)
  have ef : ∀ c : Int, 0 ≤ c → flg R' c = flg R c := fun c hc => e0 _ (by omega)
  have el : ∀ c k : Int, 0 ≤ c → 0 ≤ k → lit R' c k = lit R c k := fun c k hc hk => e0 _ (by omega)
  obtain ⟨h0, h1, h2, h3, h4, h5, h6, h7, h8, h9, h10, h11, h12, h13, h14, h15, h16, h17⟩ := h
  have z0 := e0 0 (by omega)
  have z1 := e0 1 (by omega)
  have z3 := e0 3 (by omega)
  have z4 := e0 4 (by omega)
  have z6 := e0 6 (by omega)
  refine ⟨by rw [z0]; exact h0, by rw [z1]; exact h1, by rw [e0 2 (by omega)]; exact h2, by rw [z3]; exact h3, by rw [z4]; exact h4, by rw [e0 5 (by omega)]; exact h5, by rw [z6, z1, e0 7 (by omega)]; exact h6, by rw [e0 7 (by omega)]; exact h7, by rw [e0 14 (by omega)]; exact h8, ?_, ?_, ?_, ?_, ?_, ?_, ?_, ?_, ?_⟩
  · intro k k0 k1
    rw [z3] at k1
    rw [z0, e0 (16 + k) (by omega)]
    exact h9 k k0 k1
  · intro k k0 k1
    rw [z4] at k1
    rw [z0, e0 (24 + k) (by omega)]
    exact h10 k k0 k1
  · intro v v0 v1
    rw [e0 _ (by omega)]
    exact h11 v v0 v1
  · intro v v0 v1
    rw [e0 _ (by omega)]
    exact h12 v v0 v1
  · intro c c0 c1
    rw [z1] at c1
    rw [es c c0, ef c c0, z0]
    obtain ⟨q1, q2, q3, q4, q5⟩ := h13 c c0 c1
    exact ⟨q1, q2, q3, q4, fun k k0 k1 => by rw [el c k c0 k0]; exact q5 k k0 k1⟩
  · intro k k0 k1
    rw [z6] at k1
    rw [e0 _ (by omega), z1]
    exact h14 k k0 k1
  · intro c c0 c1 i j i0 i1 j0 j1
    rw [z1] at c1
    rw [es c c0] at i1 j1
    rw [el c i c0 i0, el c j c0 j0]
    exact h15 c c0 c1 i j i0 i1 j0 j1
  · intro i j i0 i1 j0 j1
    rw [z3] at i1 j1
    rw [e0 (16 + i) (by omega), e0 (16 + j) (by omega)]
    exact h16 i j i0 i1 j0 j1
  · intro i j i0 i1 j0 j1
    rw [z4] at i1 j1
    rw [e0 (24 + i) (by omega), e0 (24 + j) (by omega)]
    exact h17 i j i0 i1 j0 j1
