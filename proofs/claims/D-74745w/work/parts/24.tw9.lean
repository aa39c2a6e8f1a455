/-- beside row and kept rows nothing changes -/
def tsk (M M' : Mt) : Prop := M' 0 0 = 0 ∧ M' 21 = M 21 ∧ M' 22 0 = M 22 0 ∧ M' 25 0 = M 25 0
def tsx (M M' : Mt) : Prop := M' 1 = M 1 ∧ M' 3 = M 3 ∧ M' 4 = M 4 ∧ M' 21 = M 21 ∧ M' 22 0 = M 22 0 ∧ M' 25 0 = M 25 0
theorem leN_rg (R : Int → Int) : ∀ n : Nat, 0 ≤ leN R n ∧ leN R n ≤ n
  | 0 => by simp [leN]
  | n + 1 => by
    have := leN_rg R n
    unfold leN
    split <;> omega
theorem amN_rg (R : Int → Int) (a : Int) (hs : ∀ n : Nat, (n : Int) < R 1 → siz R n ≤ 30) : ∀ n : Nat, (n : Int) ≤ R 1 → 0 ≤ amN R a n ∧ amN R a n ≤ 30 * n
  | 0, _ => by simp [amN]
  | n + 1, h => by
    have := amN_rg R a hs n (by omega)
    have h2 := hs n (by omega)
    have h3 := amF_rg R a n (siz R n).toNat
    unfold amN
    split <;> omega
theorem pd_X3_keep : yX3_keep.cls = RX3 ∧ yX3_keep.cls ≠ "java/lang/invoke/MethodHandle" ∧ yX3_keep.cls ≠ "java/lang/invoke/VarHandle" ∧ (parseMethodDescriptor yX3_keep.desc).map (fun d => d.parameters.length) = some 1 := by decide +kernel
theorem ct_X3_keep (l : Launch) (G : Gt) (KS : Ks l G) (x : Nat) (M : Mt) {a : Int} (ha : rg a) : TI l G yX3_keep cX3_keep 3 (some FieldType.boolean) 2 x [vI a] M (fun v M' => tsk M M' ∧ M' 1 = M 1 ∧ (¬ (0 ≤ a ∧ a ≤ 1) → v = 0 ∧ M' 3 = M 3 ∧ M' 4 = M 4) ∧ (0 ≤ a ∧ a ≤ 1 → v = 1 ∧ M' 3 = kpF (M 3) (13326 * a) 13326 (M 1) ∧ M' 4 = oI (M 4) a 1)) := by
  intro h0 h hT
  refine ct_of KS (by decide) (Nat.le_of_ble_eq_true rfl) (fun X F E => ?_)
  refine j_lv (lv' := [(0, .ref x), (1, vI a)]) ⟨rfl, rfl, trivial⟩ ?_
  have ha' := ha
  unfold rg at ha
  refine j_aload_n F rfl dX3_keep_0 ?_
  refine j_iconst F dX3_keep_1 ?_
  refine t_put F hT 0 (by decide) rfl rfl rfl (by decide) q1486 dX3_keep_2 (fun h hT => ?_)
  refine j_iload_n F rfl dX3_keep_5 ?_
  refine j_iconst F dX3_keep_6 ?_
  refine j_iconst F dX3_keep_7 ?_
  refine s_callI F (ct_X3_isIn l G KS ha' (b := 0) (c := 1) (by unfold rg; omega) (by unfold rg; omega)) (by decide) (by decide) (lw_S q1598 q1599 q110 q1600) pd_X3_isIn rfl (Nat.le_of_ble_eq_true rfl) (Nat.le_refl _) (Nat.le_refl _) dX3_keep_8 (fun v8 hv8 => ?_)
  have z8 := z01 hv8
  refine j_if_ne F 16 (by decide) (by omega) dX3_keep_11 (fun c11 => ?_) (fun c11 => ?_)
  · skip
    have hin : 0 ≤ a ∧ a ≤ 1 := by split at hv8 <;> omega
    refine j_iconst F dX3_keep_16 ?_
    refine j_istore_n F (by decide) dX3_keep_17 ?_
    have L18 : ∀ (m18 : Nat) (i : Int) (N : Mt) (h : Hp), (0 ≤ i ∧ i ≤ 13326 ∧ N = sM (oM M 0 0 0) 3 (kpF (M 3) (13326 * a) i (M 1))) → (13326 - i).toNat < m18 → Tw G x N h0 h → J X h 18 [(0, .ref x), (1, vI a), (2, vI i)] [] 0 0 := by
      intro m18
      induction m18 with
      | zero => intro i N h hI hm18 hT; exact absurd hm18 (Nat.not_lt_zero _)
      | succ m18 ih18 =>
        intro i N h hI hm18 hT
        obtain ⟨hI0, hI1, hI2⟩ := hI
        subst hI2
        refine j_iload_n F rfl dX3_keep_18 ?_
        refine j_sipush F (by decide) dX3_keep_19 ?_
        refine j_icmp_ge F 49 (by decide) (by omega) (by omega) dX3_keep_22 (fun c22 => ?_) (fun c22 => ?_)
        · skip
          refine j_aload_n F rfl dX3_keep_49 ?_
          refine t_get F hT 4 (by decide) rfl q1490 dX3_keep_50 ?_
          refine j_iload_n F rfl dX3_keep_53 ?_
          refine j_iconst F dX3_keep_54 ?_
          refine t_zast F hT 4 tm_4 rfl (by omega) (by omega) dX3_keep_55 (fun h hT => ?_)
          refine j_iconst F dX3_keep_56 ?_
          exact j_zret F E (by omega) (Nat.zero_le _) (Nat.zero_le _) dX3_keep_57 (ti_post hT ⟨⟨rfl, rfl, rfl, rfl⟩, rfl, fun q => absurd hin q, fun _ => ⟨rfl, by rw [show (13326 : Int) = i by omega]; rfl, rfl⟩⟩)
        · skip
          refine j_aload_n F rfl dX3_keep_25 ?_
          refine t_get F hT 3 (by decide) rfl q1489 dX3_keep_26 ?_
          refine j_sipush F (by decide) dX3_keep_29 ?_
          refine j_iload_n F rfl dX3_keep_32 ?_
          refine j_imul F dX3_keep_33 ?_
          refine j_iload_n F rfl dX3_keep_34 ?_
          refine j_iadd F dX3_keep_35 ?_
          refine j_aload_n F rfl dX3_keep_36 ?_
          refine t_get F hT 1 (by decide) rfl q1487 dX3_keep_37 ?_
          refine j_iload_n F rfl dX3_keep_40 ?_
          refine t_ialdw F hT 1 tm_1 (M 1 i) rfl (by omega) dX3_keep_41 ?_
          refine t_iast F hT 3 tm_3 rfl (by omega) dX3_keep_42 (fun h hT => ?_)
          refine j_iinc F rfl (by decide) dX3_keep_43 ?_
          refine j_goto F 18 (by decide) dX3_keep_46 ?_
          refine j_lv (lv' := [(0, .ref x), (1, vI a), (2, vI (i + 1))]) ⟨rfl, rfl, rfl, trivial⟩ ?_
          exact ih18 (i + 1) _ _ ⟨by omega, by omega, by rw [oM_sM, kpF_s hI0 rfl]⟩ (by omega) hT
    refine j_lv (lv' := [(0, .ref x), (1, vI a), (2, vI 0)]) ⟨rfl, rfl, rfl, trivial⟩ ?_
    exact L18 _ 0 _ _ ⟨by omega, by omega, by rw [kpF_0]; exact (sM_self _ 3).symm⟩ (Nat.lt_succ_self _) hT
  · skip
    refine j_iconst F dX3_keep_14 ?_
    exact j_zret F E (by omega) (Nat.zero_le _) (Nat.zero_le _) dX3_keep_15 (ti_post hT ⟨⟨rfl, rfl, rfl, rfl⟩, rfl, fun _ => ⟨rfl, rfl, rfl⟩, fun q => absurd q (by split at hv8 <;> omega)⟩)

theorem pd_X3_back : yX3_back.cls = RX3 ∧ yX3_back.cls ≠ "java/lang/invoke/MethodHandle" ∧ yX3_back.cls ≠ "java/lang/invoke/VarHandle" ∧ (parseMethodDescriptor yX3_back.desc).map (fun d => d.parameters.length) = some 1 := by decide +kernel
theorem ct_X3_back (l : Launch) (G : Gt) (KS : Ks l G) (x : Nat) (M : Mt) {a : Int} (ha : rg a) (hk : ∀ i : Int, 0 ≤ i → i ≤ 1 → M 4 i = 0 ∨ M 4 i = 1) : TI l G yX3_back cX3_back 3 (some FieldType.boolean) 2 x [vI a] M (fun v M' => tsk M M' ∧ M' 3 = M 3 ∧ M' 4 = M 4 ∧ (¬ (0 ≤ a ∧ a ≤ 1 ∧ M 4 a = 1) → v = 0 ∧ M' 1 = M 1) ∧ (0 ≤ a ∧ a ≤ 1 ∧ M 4 a = 1 → v = 1 ∧ M' 1 = kpF (M 1) 0 13326 (fun j => M 3 (13326 * a + j)))) := by
  intro h0 h hT
  refine ct_of KS (by decide) (Nat.le_of_ble_eq_true rfl) (fun X F E => ?_)
  refine j_lv (lv' := [(0, .ref x), (1, vI a)]) ⟨rfl, rfl, trivial⟩ ?_
  have ha' := ha
  unfold rg at ha
  refine j_aload_n F rfl dX3_back_0 ?_
  refine j_iconst F dX3_back_1 ?_
  refine t_put F hT 0 (by decide) rfl rfl rfl (by decide) q1486 dX3_back_2 (fun h hT => ?_)
  refine j_iload_n F rfl dX3_back_5 ?_
  refine j_iconst F dX3_back_6 ?_
  refine j_iconst F dX3_back_7 ?_
  refine s_callI F (ct_X3_isIn l G KS ha' (b := 0) (c := 1) (by unfold rg; omega) (by unfold rg; omega)) (by decide) (by decide) (lw_S q1598 q1599 q110 q1600) pd_X3_isIn rfl (Nat.le_of_ble_eq_true rfl) (Nat.le_refl _) (Nat.le_refl _) dX3_back_8 (fun v8 hv8 => ?_)
  have z8 := z01 hv8
  refine j_if_eq F 23 (by decide) (by omega) dX3_back_11 (fun c11 => ?_) (fun c11 => ?_)
  · skip
    refine j_iconst F dX3_back_23 ?_
    exact j_zret F E (by omega) (Nat.zero_le _) (Nat.zero_le _) dX3_back_24 (ti_post hT ⟨⟨rfl, rfl, rfl, rfl⟩, rfl, rfl, fun _ => ⟨rfl, rfl⟩, fun q => absurd q (by split at hv8 <;> omega)⟩)
  · skip
    have hin : 0 ≤ a ∧ a ≤ 1 := by split at hv8 <;> omega
    have hk' := hk a hin.1 hin.2
    refine j_aload_n F rfl dX3_back_14 ?_
    refine t_get F hT 4 (by decide) rfl q1490 dX3_back_15 ?_
    refine j_iload_n F rfl dX3_back_18 ?_
    refine t_zaldw F hT 4 tm_4 (M 4 a) rfl (by omega) dX3_back_19 ?_
    refine j_if_ne F 25 (by decide) (by omega) dX3_back_20 (fun c20 => ?_) (fun c20 => ?_)
    · skip
      refine j_iconst F dX3_back_25 ?_
      refine j_istore_n F (by decide) dX3_back_26 ?_
      have L27 : ∀ (m27 : Nat) (i : Int) (N : Mt) (h : Hp), (0 ≤ i ∧ i ≤ 13326 ∧ N = sM (oM M 0 0 0) 1 (kpF (M 1) 0 i (fun j => M 3 (13326 * a + j)))) → (13326 - i).toNat < m27 → Tw G x N h0 h → J X h 27 [(0, .ref x), (1, vI a), (2, vI i)] [] 0 0 := by
        intro m27
        induction m27 with
        | zero => intro i N h hI hm27 hT; exact absurd hm27 (Nat.not_lt_zero _)
        | succ m27 ih27 =>
          intro i N h hI hm27 hT
          obtain ⟨hI0, hI1, hI2⟩ := hI
          subst hI2
          refine j_iload_n F rfl dX3_back_27 ?_
          refine j_sipush F (by decide) dX3_back_28 ?_
          refine j_icmp_ge F 58 (by decide) (by omega) (by omega) dX3_back_31 (fun c31 => ?_) (fun c31 => ?_)
          · skip
            refine j_iconst F dX3_back_58 ?_
            exact j_zret F E (by omega) (Nat.zero_le _) (Nat.zero_le _) dX3_back_59 (ti_post hT ⟨⟨rfl, rfl, rfl, rfl⟩, rfl, rfl, fun q => absurd ⟨hin.1, hin.2, by omega⟩ q, fun _ => ⟨rfl, by rw [show (13326 : Int) = i by omega]; rfl⟩⟩)
          · skip
            refine j_aload_n F rfl dX3_back_34 ?_
            refine t_get F hT 1 (by decide) rfl q1487 dX3_back_35 ?_
            refine j_iload_n F rfl dX3_back_38 ?_
            refine j_aload_n F rfl dX3_back_39 ?_
            refine t_get F hT 3 (by decide) rfl q1489 dX3_back_40 ?_
            refine j_sipush F (by decide) dX3_back_43 ?_
            refine j_iload_n F rfl dX3_back_46 ?_
            refine j_imul F dX3_back_47 ?_
            refine j_iload_n F rfl dX3_back_48 ?_
            refine j_iadd F dX3_back_49 ?_
            refine t_ialdw F hT 3 tm_3 (M 3 (13326 * a + i)) rfl (by omega) dX3_back_50 ?_
            refine t_iast F hT 1 tm_1 rfl (by omega) dX3_back_51 (fun h hT => ?_)
            refine j_iinc F rfl (by decide) dX3_back_52 ?_
            refine j_goto F 27 (by decide) dX3_back_55 ?_
            refine j_lv (lv' := [(0, .ref x), (1, vI a), (2, vI (i + 1))]) ⟨rfl, rfl, rfl, trivial⟩ ?_
            exact ih27 (i + 1) _ _ ⟨by omega, by omega, by rw [oM_sM, ← kpF_s hI0 rfl, show (0 : Int) + i = i by omega]⟩ (by omega) hT
      refine j_lv (lv' := [(0, .ref x), (1, vI a), (2, vI 0)]) ⟨rfl, rfl, rfl, trivial⟩ ?_
      exact L27 _ 0 _ _ ⟨by omega, by omega, by rw [kpF_0]; exact (sM_self _ 1).symm⟩ (Nat.lt_succ_self _) hT
    · skip
      refine j_iconst F dX3_back_23 ?_
      exact j_zret F E (by omega) (Nat.zero_le _) (Nat.zero_le _) dX3_back_24 (ti_post hT ⟨⟨rfl, rfl, rfl, rfl⟩, rfl, rfl, fun _ => ⟨rfl, rfl⟩, fun q => absurd q (by split at hv8 <;> omega)⟩)

theorem pd_X3_learntMany : yX3_learntMany.cls = RX3 ∧ yX3_learntMany.cls ≠ "java/lang/invoke/MethodHandle" ∧ yX3_learntMany.cls ≠ "java/lang/invoke/VarHandle" ∧ (parseMethodDescriptor yX3_learntMany.desc).map (fun d => d.parameters.length) = some 0 := by decide +kernel
theorem ct_X3_learntMany (l : Launch) (G : Gt) (KS : Ks l G) (x : Nat) (M : Mt) (hR : RI (M 1)) : TI l G yX3_learntMany cX3_learntMany 3 (some FieldType.int) 1 x [] M (fun v M' => v = leN (M 1) (M 1 1).toNat ∧ M = M') := by
  intro h0 h hT
  refine ct_of KS (by decide) (Nat.le_of_ble_eq_true rfl) (fun X F E => ?_)
  refine j_lv (lv' := [(0, .ref x)]) ⟨rfl, trivial⟩ ?_
  have hm := hR.many
  refine j_iconst F dX3_learntMany_0 ?_
  refine j_istore_n F (by decide) dX3_learntMany_1 ?_
  refine j_iconst F dX3_learntMany_2 ?_
  refine j_istore_n F (by decide) dX3_learntMany_3 ?_
  have L4 : ∀ (m4 : Nat) (i nn : Int) (h : Hp), (0 ≤ i ∧ i ≤ M 1 1 ∧ nn = leN (M 1) i.toNat) → (M 1 1 - i).toNat < m4 → Tw G x M h0 h → J X h 4 [(0, .ref x), (1, vI nn), (2, vI i)] [] 0 0 := by
    intro m4
    induction m4 with
    | zero => intro i nn h hI hm4 hT; exact absurd hm4 (Nat.not_lt_zero _)
    | succ m4 ih4 =>
      intro i nn h hI hm4 hT
      obtain ⟨hI0, hI1, hI2⟩ := hI
      have hnr := leN_rg (M 1) i.toNat
      refine j_iload_n F rfl dX3_learntMany_4 ?_
      refine j_aload_n F rfl dX3_learntMany_5 ?_
      refine t_get F hT 1 (by decide) rfl q1487 dX3_learntMany_6 ?_
      refine j_iconst F dX3_learntMany_9 ?_
      refine t_iald F hT 1 tm_1 (by omega) dX3_learntMany_10 ?_
      refine j_icmp_ge F 42 (by decide) (by omega) (by omega) dX3_learntMany_11 (fun c11 => ?_) (fun c11 => ?_)
      · skip
        refine j_iload_n F rfl dX3_learntMany_42 ?_
        exact j_iret F E (Nat.zero_le _) (Nat.zero_le _) dX3_learntMany_43 (ti_post hT ⟨by rw [hI2, show M 1 1 = i by omega], rfl⟩)
      · skip
        have hcl := hR.cl hI0 (by omega)
        have hfl : flg (M 1) i = M 1 (525 + i) := rfl
        refine j_iload_n F rfl dX3_learntMany_14 ?_
        refine j_joinT (x := x) (M := M) (G := G) (h0 := h0) 34 (fun w => nn + w = leN (M 1) (i + 1).toNat) (fun w h hw hT => ?_) (fun Kj15 => ?_)
        · skip
          refine j_iadd F dX3_learntMany_34 ?_
          refine j_istore_n F (by decide) dX3_learntMany_35 ?_
          refine j_iinc F rfl (by decide) dX3_learntMany_36 ?_
          refine j_goto F 4 (by decide) dX3_learntMany_39 ?_
          refine j_lv (lv' := [(0, .ref x), (1, vI (nn + w)), (2, vI (i + 1))]) ⟨rfl, rfl, rfl, trivial⟩ ?_
          exact ih4 (i + 1) (nn + w) _ ⟨by omega, by omega, hw⟩ (by omega) hT
        · skip
          refine j_aload_n F rfl dX3_learntMany_15 ?_
          refine t_get F hT 1 (by decide) rfl q1487 dX3_learntMany_16 ?_
          refine j_sipush F (by decide) dX3_learntMany_19 ?_
          refine j_iload_n F rfl dX3_learntMany_22 ?_
          refine j_iadd F dX3_learntMany_23 ?_
          refine t_iald F hT 1 tm_1 (by omega) dX3_learntMany_24 ?_
          refine j_iconst F dX3_learntMany_25 ?_
          refine j_icmp_ne F 33 (by decide) (by omega) (by omega) dX3_learntMany_26 (fun c26 => ?_) (fun c26 => ?_)
          · skip
            refine j_iconst F dX3_learntMany_33 ?_
            exact Kj15 _ _ (by rw [leN_s hI0, hI2]; split <;> omega) hT
          · skip
            refine j_iconst F dX3_learntMany_29 ?_
            refine j_goto F 34 (by decide) dX3_learntMany_30 ?_
            exact Kj15 _ _ (by rw [leN_s hI0, hI2]; split <;> omega) hT
  refine j_lv (lv' := [(0, .ref x), (1, vI 0), (2, vI 0)]) ⟨rfl, rfl, rfl, trivial⟩ ?_
  exact L4 _ 0 0 _ ⟨by omega, by omega, rfl⟩ (Nat.lt_succ_self _) hT

theorem pd_X3_count : yX3_count.cls = RX3 ∧ yX3_count.cls ≠ "java/lang/invoke/MethodHandle" ∧ yX3_count.cls ≠ "java/lang/invoke/VarHandle" ∧ (parseMethodDescriptor yX3_count.desc).map (fun d => d.parameters.length) = some 1 := by decide +kernel
theorem ct_X3_count (l : Launch) (G : Gt) (KS : Ks l G) (x : Nat) (M : Mt) {a : Int} (ha : rg a) (hR : RI (M 1)) : TI l G yX3_count cX3_count 2 (some FieldType.int) 2 x [vI a] M (fun v M' => tsm M M' ∧ M' 1 = M 1 ∧ Scount (M 1) (M 22 0) a v) := by
  intro h0 h hT
  refine ct_of KS (by decide) (Nat.le_of_ble_eq_true rfl) (fun X F E => ?_)
  refine j_lv (lv' := [(0, .ref x), (1, vI a)]) ⟨rfl, rfl, trivial⟩ ?_
  unfold rg at ha
  refine j_aload_n F rfl dX3_count_0 ?_
  refine j_iconst F dX3_count_1 ?_
  refine t_put F hT 0 (by decide) rfl rfl rfl (by decide) q1486 dX3_count_2 (fun h hT => ?_)
  refine j_iload_n F rfl dX3_count_5 ?_
  by_cases s6_0 : a = 0
  · refine j_tswI F (off := 74) 80 (by decide) (by omega) (by omega) (by omega) (by rw [s6_0]; rfl) dX3_count_6 ?_
    refine j_aload_n F rfl dX3_count_80 ?_
    refine t_get F hT 1 (by decide) rfl q1487 dX3_count_81 ?_
    refine j_iconst F dX3_count_84 ?_
    refine t_iald F hT 1 tm_1 (by omega) dX3_count_85 ?_
    exact j_iret F E (Nat.zero_le _) (Nat.zero_le _) dX3_count_86 (ti_post hT ⟨⟨rfl, rfl, rfl, rfl, rfl, rfl⟩, rfl, by unfold Scount; first | (simp [*]; done) | (simp [*]; rfl)⟩)
  by_cases s6_1 : a = 1
  · refine j_tswI F (off := 81) 87 (by decide) (by omega) (by omega) (by omega) (by rw [s6_1]; rfl) dX3_count_6 ?_
    refine j_aload_n F rfl dX3_count_87 ?_
    refine t_get F hT 1 (by decide) rfl q1487 dX3_count_88 ?_
    refine j_iconst F dX3_count_91 ?_
    refine t_iald F hT 1 tm_1 (by omega) dX3_count_92 ?_
    exact j_iret F E (Nat.zero_le _) (Nat.zero_le _) dX3_count_93 (ti_post hT ⟨⟨rfl, rfl, rfl, rfl, rfl, rfl⟩, rfl, by unfold Scount; first | (simp [*]; done) | (simp [*]; rfl)⟩)
  by_cases s6_2 : a = 2
  · refine j_tswI F (off := 88) 94 (by decide) (by omega) (by omega) (by omega) (by rw [s6_2]; rfl) dX3_count_6 ?_
    refine j_aload_n F rfl dX3_count_94 ?_
    refine t_get F hT 1 (by decide) rfl q1487 dX3_count_95 ?_
    refine j_iconst F dX3_count_98 ?_
    refine t_iald F hT 1 tm_1 (by omega) dX3_count_99 ?_
    exact j_iret F E (Nat.zero_le _) (Nat.zero_le _) dX3_count_100 (ti_post hT ⟨⟨rfl, rfl, rfl, rfl, rfl, rfl⟩, rfl, by unfold Scount; first | (simp [*]; done) | (simp [*]; rfl)⟩)
  by_cases s6_3 : a = 3
  · refine j_tswI F (off := 95) 101 (by decide) (by omega) (by omega) (by omega) (by rw [s6_3]; rfl) dX3_count_6 ?_
    refine j_aload_n F rfl dX3_count_101 ?_
    refine t_callI F hT (ct_X3_learntMany l G KS x _ hR) (by decide) (by decide) (lw_V q1752 q1754 qs80 q110 q1755) pd_X3_learntMany rfl (Nat.le_of_ble_eq_true rfl) (Nat.le_refl _) (Nat.le_refl _) dX3_count_102 (fun v102 M' h hv102 hT => ?_)
    obtain ⟨hv102, rfl⟩ := hv102
    subst hv102
    exact j_iret F E (Nat.zero_le _) (Nat.zero_le _) dX3_count_105 (ti_post hT ⟨⟨rfl, rfl, rfl, rfl, rfl, rfl⟩, rfl, by unfold Scount; first | (simp [*]; done) | (simp [*]; rfl)⟩)
  by_cases s6_4 : a = 4
  · refine j_tswI F (off := 100) 106 (by decide) (by omega) (by omega) (by omega) (by rw [s6_4]; rfl) dX3_count_6 ?_
    refine j_aload_n F rfl dX3_count_106 ?_
    refine t_get F hT 1 (by decide) rfl q1487 dX3_count_107 ?_
    refine j_iconst F dX3_count_110 ?_
    refine t_iald F hT 1 tm_1 (by omega) dX3_count_111 ?_
    exact j_iret F E (Nat.zero_le _) (Nat.zero_le _) dX3_count_112 (ti_post hT ⟨⟨rfl, rfl, rfl, rfl, rfl, rfl⟩, rfl, by unfold Scount; first | (simp [*]; done) | (simp [*]; rfl)⟩)
  by_cases s6_5 : a = 5
  · refine j_tswI F (off := 107) 113 (by decide) (by omega) (by omega) (by omega) (by rw [s6_5]; rfl) dX3_count_6 ?_
    refine j_aload_n F rfl dX3_count_113 ?_
    refine t_get F hT 1 (by decide) rfl q1487 dX3_count_114 ?_
    refine j_iconst F dX3_count_117 ?_
    refine t_iald F hT 1 tm_1 (by omega) dX3_count_118 ?_
    exact j_iret F E (Nat.zero_le _) (Nat.zero_le _) dX3_count_119 (ti_post hT ⟨⟨rfl, rfl, rfl, rfl, rfl, rfl⟩, rfl, by unfold Scount; first | (simp [*]; done) | (simp [*]; rfl)⟩)
  by_cases s6_6 : a = 6
  · refine j_tswI F (off := 114) 120 (by decide) (by omega) (by omega) (by omega) (by rw [s6_6]; rfl) dX3_count_6 ?_
    refine j_aload_n F rfl dX3_count_120 ?_
    refine t_get F hT 1 (by decide) rfl q1487 dX3_count_121 ?_
    refine j_iconst F dX3_count_124 ?_
    refine t_iald F hT 1 tm_1 (by omega) dX3_count_125 ?_
    exact j_iret F E (Nat.zero_le _) (Nat.zero_le _) dX3_count_126 (ti_post hT ⟨⟨rfl, rfl, rfl, rfl, rfl, rfl⟩, rfl, by unfold Scount; first | (simp [*]; done) | (simp [*]; rfl)⟩)
  by_cases s6_7 : a = 7
  · refine j_tswI F (off := 121) 127 (by decide) (by omega) (by omega) (by omega) (by rw [s6_7]; rfl) dX3_count_6 ?_
    refine j_aload_n F rfl dX3_count_127 ?_
    refine t_get F hT 1 (by decide) rfl q1487 dX3_count_128 ?_
    refine j_bipush F (by decide) dX3_count_131 ?_
    refine t_iald F hT 1 tm_1 (by omega) dX3_count_133 ?_
    exact j_iret F E (Nat.zero_le _) (Nat.zero_le _) dX3_count_134 (ti_post hT ⟨⟨rfl, rfl, rfl, rfl, rfl, rfl⟩, rfl, by unfold Scount; first | (simp [*]; done) | (simp [*]; rfl)⟩)
  by_cases s6_8 : a = 8
  · refine j_tswI F (off := 129) 135 (by decide) (by omega) (by omega) (by omega) (by rw [s6_8]; rfl) dX3_count_6 ?_
    refine j_aload_n F rfl dX3_count_135 ?_
    refine t_get F hT 1 (by decide) rfl q1487 dX3_count_136 ?_
    refine j_bipush F (by decide) dX3_count_139 ?_
    refine t_iald F hT 1 tm_1 (by omega) dX3_count_141 ?_
    exact j_iret F E (Nat.zero_le _) (Nat.zero_le _) dX3_count_142 (ti_post hT ⟨⟨rfl, rfl, rfl, rfl, rfl, rfl⟩, rfl, by unfold Scount; first | (simp [*]; done) | (simp [*]; rfl)⟩)
  by_cases s6_9 : a = 9
  · refine j_tswI F (off := 137) 143 (by decide) (by omega) (by omega) (by omega) (by rw [s6_9]; rfl) dX3_count_6 ?_
    refine j_aload_n F rfl dX3_count_143 ?_
    refine t_get F hT 22 (by decide) rfl q1508 dX3_count_144 ?_
    exact j_iret F E (Nat.zero_le _) (Nat.zero_le _) dX3_count_147 (ti_post hT ⟨⟨rfl, rfl, rfl, rfl, rfl, rfl⟩, rfl, by unfold Scount; first | (simp [*]; done) | (simp [*]; rfl)⟩)
  by_cases s6_10 : a = 10
  · refine j_tswI F (off := 142) 148 (by decide) (by omega) (by omega) (by omega) (by rw [s6_10]; rfl) dX3_count_6 ?_
    refine j_aload_n F rfl dX3_count_148 ?_
    refine t_get F hT 1 (by decide) rfl q1487 dX3_count_149 ?_
    refine j_bipush F (by decide) dX3_count_152 ?_
    refine t_iald F hT 1 tm_1 (by omega) dX3_count_154 ?_
    exact j_iret F E (Nat.zero_le _) (Nat.zero_le _) dX3_count_155 (ti_post hT ⟨⟨rfl, rfl, rfl, rfl, rfl, rfl⟩, rfl, by unfold Scount; first | (simp [*]; done) | (simp [*]; rfl)⟩)
  by_cases s6_11 : a = 11
  · refine j_tswI F (off := 150) 156 (by decide) (by omega) (by omega) (by omega) (by rw [s6_11]; rfl) dX3_count_6 ?_
    refine j_aload_n F rfl dX3_count_156 ?_
    refine t_get F hT 1 (by decide) rfl q1487 dX3_count_157 ?_
    refine j_bipush F (by decide) dX3_count_160 ?_
    refine t_iald F hT 1 tm_1 (by omega) dX3_count_162 ?_
    exact j_iret F E (Nat.zero_le _) (Nat.zero_le _) dX3_count_163 (ti_post hT ⟨⟨rfl, rfl, rfl, rfl, rfl, rfl⟩, rfl, by unfold Scount; first | (simp [*]; done) | (simp [*]; rfl)⟩)
  by_cases s6_12 : a = 12
  · refine j_tswI F (off := 158) 164 (by decide) (by omega) (by omega) (by omega) (by rw [s6_12]; rfl) dX3_count_6 ?_
    refine j_aload_n F rfl dX3_count_164 ?_
    refine t_get F hT 1 (by decide) rfl q1487 dX3_count_165 ?_
    refine j_bipush F (by decide) dX3_count_168 ?_
    refine t_iald F hT 1 tm_1 (by omega) dX3_count_170 ?_
    exact j_iret F E (Nat.zero_le _) (Nat.zero_le _) dX3_count_171 (ti_post hT ⟨⟨rfl, rfl, rfl, rfl, rfl, rfl⟩, rfl, by unfold Scount; first | (simp [*]; done) | (simp [*]; rfl)⟩)
  by_cases s6_13 : a = 13
  · refine j_tswI F (off := 166) 172 (by decide) (by omega) (by omega) (by omega) (by rw [s6_13]; rfl) dX3_count_6 ?_
    refine j_aload_n F rfl dX3_count_172 ?_
    refine t_get F hT 1 (by decide) rfl q1487 dX3_count_173 ?_
    refine j_bipush F (by decide) dX3_count_176 ?_
    refine t_iald F hT 1 tm_1 (by omega) dX3_count_178 ?_
    exact j_iret F E (Nat.zero_le _) (Nat.zero_le _) dX3_count_179 (ti_post hT ⟨⟨rfl, rfl, rfl, rfl, rfl, rfl⟩, rfl, by unfold Scount; first | (simp [*]; done) | (simp [*]; rfl)⟩)
  by_cases s6_14 : a = 14
  · refine j_tswI F (off := 174) 180 (by decide) (by omega) (by omega) (by omega) (by rw [s6_14]; rfl) dX3_count_6 ?_
    refine j_aload_n F rfl dX3_count_180 ?_
    refine t_get F hT 1 (by decide) rfl q1487 dX3_count_181 ?_
    refine j_bipush F (by decide) dX3_count_184 ?_
    refine t_iald F hT 1 tm_1 (by omega) dX3_count_186 ?_
    exact j_iret F E (Nat.zero_le _) (Nat.zero_le _) dX3_count_187 (ti_post hT ⟨⟨rfl, rfl, rfl, rfl, rfl, rfl⟩, rfl, by unfold Scount; first | (simp [*]; done) | (simp [*]; rfl)⟩)
  refine j_tswO F 188 (by decide) (by omega) (by omega) dX3_count_6 ?_
  refine j_iconst F dX3_count_188 ?_
  exact j_iret F E (Nat.zero_le _) (Nat.zero_le _) dX3_count_189 (ti_post hT ⟨⟨rfl, rfl, rfl, rfl, rfl, rfl⟩, rfl, by unfold Scount; first | (simp [*]; done) | (simp [*]; rfl)⟩)

theorem pd_X3_clause : yX3_clause.cls = RX3 ∧ yX3_clause.cls ≠ "java/lang/invoke/MethodHandle" ∧ yX3_clause.cls ≠ "java/lang/invoke/VarHandle" ∧ (parseMethodDescriptor yX3_clause.desc).map (fun d => d.parameters.length) = some 2 := by decide +kernel
theorem ct_X3_clause (l : Launch) (G : Gt) (KS : Ks l G) (x : Nat) (M : Mt) {c a : Int} (hc : rg c) (ha : rg a) (hR : RI (M 1)) : TI l G yX3_clause cX3_clause 3 (some FieldType.int) 2 x [vI c, vI a] M (fun v M' => tsx M M' ∧ Sclause (M 1) c a v (M' 0 0)) := by
  intro h0 h hT
  refine ct_of KS (by decide) (Nat.le_of_ble_eq_true rfl) (fun X F E => ?_)
  refine j_lv (lv' := [(0, .ref x), (1, vI c), (2, vI a)]) ⟨rfl, rfl, rfl, trivial⟩ ?_
  have hc' := hc
  have ha' := ha
  unfold rg at hc ha
  have hm := hR.many
  refine j_aload_n F rfl dX3_clause_0 ?_
  refine j_joinT (x := x) (M := M) (G := G) (h0 := h0) 38 (fun w => (w = 0 ∨ w = 1) ∧ (w = 0 ↔ (0 ≤ c ∧ c ≤ M 1 1 - 1 ∧ -3 ≤ a ∧ a ≤ siz (M 1) c - 1))) (fun w h hw hT => ?_) (fun Kj1 => ?_)
  · skip
    refine t_put F hT 0 (by decide) rfl rfl rfl (by decide) q1486 dX3_clause_38 (fun h hT => ?_)
    refine j_aload_n F rfl dX3_clause_41 ?_
    refine t_get F hT 0 (by decide) (v := vI w) rfl q1486 dX3_clause_42 ?_
    refine j_iconst F dX3_clause_45 ?_
    refine j_icmp_ne F 51 (by decide) (by omega) (by omega) dX3_clause_46 (fun c46 => ?_) (fun c46 => ?_)
    · skip
      have hw0 : w = 0 := by omega
      obtain ⟨g1, g2, g3, g4⟩ := hw.2.mp hw0
      have hcl := hR.cl g1 (by omega)
      refine j_iload_n F rfl dX3_clause_51 ?_
      by_cases s52_0 : a = -3
      · refine j_tswI F (off := 48) 100 (by decide) (by omega) (by omega) (by omega) (by rw [s52_0]; rfl) dX3_clause_52 ?_
        refine j_aload_n F rfl dX3_clause_100 ?_
        refine j_iload_n F rfl dX3_clause_101 ?_
        refine t_callI F hT (ct_X3_isGone l G KS x _ (c := c) (by omega) (by exact ⟨hcl.2.2.1, hcl.2.2.2.1⟩)) (by decide) (by decide) (lw_V q1637 q1639 qs56 q110 q1640) pd_X3_isGone rfl (Nat.le_of_ble_eq_true rfl) (Nat.le_refl _) (Nat.le_refl _) dX3_clause_102 (fun v102 M' h hv102 hT => ?_)
        obtain ⟨hv102, rfl⟩ := hv102
        have e102 : v102 = if 2 ≤ flg (M 1) c then 1 else 0 := hv102
        have z102 := z01 e102
        refine j_if_eq F 112 (by decide) (by omega) dX3_clause_105 (fun c105 => ?_) (fun c105 => ?_)
        · skip
          refine j_iconst F dX3_clause_112 ?_
          exact j_iret F E (Nat.zero_le _) (Nat.zero_le _) dX3_clause_113 (ti_post hT ⟨⟨rfl, rfl, rfl, rfl, rfl, rfl⟩, fun q => absurd ⟨g1, g2, g3, g4⟩ q, fun _ => ⟨hw0, by rw [if_neg (by omega), if_neg (by omega), if_pos (by omega), ← e102]; omega⟩⟩)
        · skip
          refine j_iconst F dX3_clause_108 ?_
          refine j_goto F 113 (by decide) dX3_clause_109 ?_
          exact j_iret F E (Nat.zero_le _) (Nat.zero_le _) dX3_clause_113 (ti_post hT ⟨⟨rfl, rfl, rfl, rfl, rfl, rfl⟩, fun q => absurd ⟨g1, g2, g3, g4⟩ q, fun _ => ⟨hw0, by rw [if_neg (by omega), if_neg (by omega), if_pos (by omega), ← e102]; omega⟩⟩)
      by_cases s52_1 : a = -2
      · refine j_tswI F (off := 34) 86 (by decide) (by omega) (by omega) (by omega) (by rw [s52_1]; rfl) dX3_clause_52 ?_
        refine j_aload_n F rfl dX3_clause_86 ?_
        refine j_iload_n F rfl dX3_clause_87 ?_
        refine t_callI F hT (ct_X3_isLearnt l G KS x _ (c := c) (by omega) (by exact ⟨hcl.2.2.1, hcl.2.2.2.1⟩)) (by decide) (by decide) (lw_V q1633 q1635 qs55 q110 q1636) pd_X3_isLearnt rfl (Nat.le_of_ble_eq_true rfl) (Nat.le_refl _) (Nat.le_refl _) dX3_clause_88 (fun v88 M' h hv88 hT => ?_)
        obtain ⟨hv88, rfl⟩ := hv88
        have e88 : v88 = if flg (M 1) c = 1 ∨ flg (M 1) c = 3 then 1 else 0 := hv88
        have z88 := z01 e88
        refine j_if_eq F 98 (by decide) (by omega) dX3_clause_91 (fun c91 => ?_) (fun c91 => ?_)
        · skip
          refine j_iconst F dX3_clause_98 ?_
          exact j_iret F E (Nat.zero_le _) (Nat.zero_le _) dX3_clause_99 (ti_post hT ⟨⟨rfl, rfl, rfl, rfl, rfl, rfl⟩, fun q => absurd ⟨g1, g2, g3, g4⟩ q, fun _ => ⟨hw0, by rw [if_neg (by omega), if_pos (by omega), ← e88]; omega⟩⟩)
        · skip
          refine j_iconst F dX3_clause_94 ?_
          refine j_goto F 99 (by decide) dX3_clause_95 ?_
          exact j_iret F E (Nat.zero_le _) (Nat.zero_le _) dX3_clause_99 (ti_post hT ⟨⟨rfl, rfl, rfl, rfl, rfl, rfl⟩, fun q => absurd ⟨g1, g2, g3, g4⟩ q, fun _ => ⟨hw0, by rw [if_neg (by omega), if_pos (by omega), ← e88]; omega⟩⟩)
      by_cases s52_2 : a = -1
      · refine j_tswI F (off := 28) 80 (by decide) (by omega) (by omega) (by omega) (by rw [s52_2]; rfl) dX3_clause_52 ?_
        refine j_aload_n F rfl dX3_clause_80 ?_
        refine j_iload_n F rfl dX3_clause_81 ?_
        refine t_callI F hT (ct_X3_sizeOf l G KS x _ (c := c) (by omega)) (by decide) (by decide) (lw_V q1641 q1643 qs57 q110 q1644) pd_X3_sizeOf rfl (Nat.le_of_ble_eq_true rfl) (Nat.le_refl _) (Nat.le_refl _) dX3_clause_82 (fun v82 M' h hv82 hT => ?_)
        obtain ⟨hv82, rfl⟩ := hv82
        exact j_iret F E (Nat.zero_le _) (Nat.zero_le _) dX3_clause_85 (ti_post hT ⟨⟨rfl, rfl, rfl, rfl, rfl, rfl⟩, fun q => absurd ⟨g1, g2, g3, g4⟩ q, fun _ => ⟨hw0, by rw [if_pos (by omega)]; exact hv82⟩⟩)
      refine j_tswO F 114 (by decide) (by omega) (by omega) dX3_clause_52 ?_
      refine j_aload_n F rfl dX3_clause_114 ?_
      refine j_iload_n F rfl dX3_clause_115 ?_
      refine j_iload_n F rfl dX3_clause_116 ?_
      refine t_callI F hT (ct_X3_literal l G KS x _ (c := c) (k := a) (by omega) (by omega)) (by decide) (by decide) (lw_V q1685 q1687 qs65 q110 q1688) pd_X3_literal rfl (Nat.le_of_ble_eq_true rfl) (Nat.le_refl _) (Nat.le_refl _) dX3_clause_117 (fun v117 M' h hv117 hT => ?_)
      obtain ⟨hv117, rfl⟩ := hv117
      exact j_iret F E (Nat.zero_le _) (Nat.zero_le _) dX3_clause_120 (ti_post hT ⟨⟨rfl, rfl, rfl, rfl, rfl, rfl⟩, fun q => absurd ⟨g1, g2, g3, g4⟩ q, fun _ => ⟨hw0, by rw [if_neg (by omega), if_neg (by omega), if_neg (by omega)]; exact hv117⟩⟩)
    · skip
      refine j_iconst F dX3_clause_49 ?_
      exact j_iret F E (Nat.zero_le _) (Nat.zero_le _) dX3_clause_50 (ti_post hT ⟨⟨rfl, rfl, rfl, rfl, rfl, rfl⟩, fun _ => c46, fun q => absurd (hw.2.mpr q) (by omega)⟩)
  · skip
    refine j_iload_n F rfl dX3_clause_1 ?_
    refine j_iconst F dX3_clause_2 ?_
    refine j_aload_n F rfl dX3_clause_3 ?_
    refine t_get F hT 1 (by decide) rfl q1487 dX3_clause_4 ?_
    refine j_iconst F dX3_clause_7 ?_
    refine t_iald F hT 1 tm_1 (by omega) dX3_clause_8 ?_
    refine j_iconst F dX3_clause_9 ?_
    refine j_isub F dX3_clause_10 ?_
    refine s_callI F (ct_X3_isIn l G KS hc' (b := 0) (c := M 1 1 - 1) (by unfold rg; omega) (by unfold rg; omega)) (by decide) (by decide) (lw_S q1598 q1599 q110 q1600) pd_X3_isIn rfl (Nat.le_of_ble_eq_true rfl) (Nat.le_refl _) (Nat.le_refl _) dX3_clause_11 (fun v11 hv11 => ?_)
    have z11 := z01 hv11
    refine j_if_eq F 37 (by decide) (by omega) dX3_clause_14 (fun c14 => ?_) (fun c14 => ?_)
    · skip
      have hno : ¬ (0 ≤ c ∧ c ≤ M 1 1 - 1) := by split at hv11 <;> omega
      refine j_iconst F dX3_clause_37 ?_
      exact Kj1 _ _ (by first | exact ⟨by omega, by split at hv27 <;> omega⟩ | exact ⟨by omega, by omega⟩) hT
    · skip
      have hin : 0 ≤ c ∧ c ≤ M 1 1 - 1 := by split at hv11 <;> omega
      have hcl := hR.cl hin.1 (by omega)
      refine j_iload_n F rfl dX3_clause_17 ?_
      refine j_bipush F (by decide) dX3_clause_18 ?_
      refine j_aload_n F rfl dX3_clause_20 ?_
      refine j_iload_n F rfl dX3_clause_21 ?_
      refine t_callI F hT (ct_X3_sizeOf l G KS x M (c := c) (by omega)) (by decide) (by decide) (lw_V q1641 q1643 qs57 q110 q1644) pd_X3_sizeOf rfl (Nat.le_of_ble_eq_true rfl) (Nat.le_refl _) (Nat.le_refl _) dX3_clause_22 (fun v22 M' h hv22 hT => ?_)
      obtain ⟨hv22, rfl⟩ := hv22
      have e22 : v22 = siz (M 1) c := hv22
      subst e22
      refine j_iconst F dX3_clause_25 ?_
      refine j_isub F dX3_clause_26 ?_
      refine s_callI F (ct_X3_isIn l G KS ha' (b := -3) (c := siz (M 1) c - 1) (by unfold rg; omega) (by unfold rg; omega)) (by decide) (by decide) (lw_S q1598 q1599 q110 q1600) pd_X3_isIn rfl (Nat.le_of_ble_eq_true rfl) (Nat.le_refl _) (Nat.le_refl _) dX3_clause_27 (fun v27 hv27 => ?_)
      have z27 := z01 hv27
      refine j_if_eq F 37 (by decide) (by omega) dX3_clause_30 (fun c30 => ?_) (fun c30 => ?_)
      · skip
        refine j_iconst F dX3_clause_37 ?_
        exact Kj1 _ _ (by first | exact ⟨by omega, by split at hv27 <;> omega⟩ | exact ⟨by omega, by omega⟩) hT
      · skip
        refine j_iconst F dX3_clause_33 ?_
        refine j_goto F 38 (by decide) dX3_clause_34 ?_
        exact Kj1 _ _ ⟨by omega, by split at hv27 <;> omega⟩ hT

theorem pd_X3_assumption : yX3_assumption.cls = RX3 ∧ yX3_assumption.cls ≠ "java/lang/invoke/MethodHandle" ∧ yX3_assumption.cls ≠ "java/lang/invoke/VarHandle" ∧ (parseMethodDescriptor yX3_assumption.desc).map (fun d => d.parameters.length) = some 1 := by decide +kernel
theorem ct_X3_assumption (l : Launch) (G : Gt) (KS : Ks l G) (x : Nat) (M : Mt) {a : Int} (ha : rg a) (hR : RI (M 1)) : TI l G yX3_assumption cX3_assumption 2 (some FieldType.int) 2 x [vI a] M (fun v M' => tsm M M' ∧ M' 1 = M 1 ∧ v = if 0 ≤ a ∧ a ≤ M 1 3 - 1 then M 1 (16 + a) else 0) := by
  intro h0 h hT
  refine ct_of KS (by decide) (Nat.le_of_ble_eq_true rfl) (fun X F E => ?_)
  refine j_lv (lv' := [(0, .ref x), (1, vI a)]) ⟨rfl, rfl, trivial⟩ ?_
  have ha' := ha
  unfold rg at ha
  have has := hR.as
  refine j_aload_n F rfl dX3_assumption_0 ?_
  refine j_iconst F dX3_assumption_1 ?_
  refine t_put F hT 0 (by decide) rfl rfl rfl (by decide) q1486 dX3_assumption_2 (fun h hT => ?_)
  refine j_iload_n F rfl dX3_assumption_5 ?_
  refine j_iconst F dX3_assumption_6 ?_
  refine j_aload_n F rfl dX3_assumption_7 ?_
  refine t_get F hT 1 (by decide) rfl q1487 dX3_assumption_8 ?_
  refine j_iconst F dX3_assumption_11 ?_
  refine t_ialdw F hT 1 tm_1 (M 1 3) rfl (by omega) dX3_assumption_12 ?_
  refine j_iconst F dX3_assumption_13 ?_
  refine j_isub F dX3_assumption_14 ?_
  refine s_callI F (ct_X3_isIn l G KS ha' (b := 0) (c := M 1 3 - 1) (by unfold rg; omega) (by unfold rg; omega)) (by decide) (by decide) (lw_S q1598 q1599 q110 q1600) pd_X3_isIn rfl (Nat.le_of_ble_eq_true rfl) (Nat.le_refl _) (Nat.le_refl _) dX3_assumption_15 (fun v15 hv15 => ?_)
  have z15 := z01 hv15
  refine j_if_eq F 33 (by decide) (by omega) dX3_assumption_18 (fun c18 => ?_) (fun c18 => ?_)
  · skip
    refine j_iconst F dX3_assumption_33 ?_
    exact j_iret F E (Nat.zero_le _) (Nat.zero_le _) dX3_assumption_34 (ti_post hT ⟨⟨rfl, rfl, rfl, rfl, rfl, rfl⟩, rfl, by split at hv15 <;> split <;> omega⟩)
  · skip
    have hin : 0 ≤ a ∧ a ≤ M 1 3 - 1 := by split at hv15 <;> omega
    refine j_aload_n F rfl dX3_assumption_21 ?_
    refine t_get F hT 1 (by decide) rfl q1487 dX3_assumption_22 ?_
    refine j_bipush F (by decide) dX3_assumption_25 ?_
    refine j_iload_n F rfl dX3_assumption_27 ?_
    refine j_iadd F dX3_assumption_28 ?_
    refine t_ialdw F hT 1 tm_1 (M 1 (16 + a)) rfl (by omega) dX3_assumption_29 ?_
    refine j_goto F 34 (by decide) dX3_assumption_30 ?_
    exact j_iret F E (Nat.zero_le _) (Nat.zero_le _) dX3_assumption_34 (ti_post hT ⟨⟨rfl, rfl, rfl, rfl, rfl, rfl⟩, rfl, by split at hv15 <;> split <;> omega⟩)

theorem pd_X3_model : yX3_model.cls = RX3 ∧ yX3_model.cls ≠ "java/lang/invoke/MethodHandle" ∧ yX3_model.cls ≠ "java/lang/invoke/VarHandle" ∧ (parseMethodDescriptor yX3_model.desc).map (fun d => d.parameters.length) = some 1 := by decide +kernel
theorem ct_X3_model (l : Launch) (G : Gt) (KS : Ks l G) (x : Nat) (M : Mt) {a : Int} (ha : rg a) (hR : RI (M 1)) : TI l G yX3_model cX3_model 2 (some FieldType.int) 2 x [vI a] M (fun v M' => tsm M M' ∧ M' 1 = M 1 ∧ v = if 1 ≤ a ∧ a ≤ M 1 14 then M 1 (94 + a) else -1) := by
  intro h0 h hT
  refine ct_of KS (by decide) (Nat.le_of_ble_eq_true rfl) (fun X F E => ?_)
  refine j_lv (lv' := [(0, .ref x), (1, vI a)]) ⟨rfl, rfl, trivial⟩ ?_
  have ha' := ha
  unfold rg at ha
  have has := hR.mv
  refine j_aload_n F rfl dX3_model_0 ?_
  refine j_iconst F dX3_model_1 ?_
  refine t_put F hT 0 (by decide) rfl rfl rfl (by decide) q1486 dX3_model_2 (fun h hT => ?_)
  refine j_iload_n F rfl dX3_model_5 ?_
  refine j_iconst F dX3_model_6 ?_
  refine j_aload_n F rfl dX3_model_7 ?_
  refine t_get F hT 1 (by decide) rfl q1487 dX3_model_8 ?_
  refine j_bipush F (by decide) dX3_model_11 ?_
  refine t_ialdw F hT 1 tm_1 (M 1 14) rfl (by omega) dX3_model_13 ?_
  refine s_callI F (ct_X3_isIn l G KS ha' (b := 1) (c := M 1 14) (by unfold rg; omega) (by unfold rg; omega)) (by decide) (by decide) (lw_S q1598 q1599 q110 q1600) pd_X3_isIn rfl (Nat.le_of_ble_eq_true rfl) (Nat.le_refl _) (Nat.le_refl _) dX3_model_14 (fun v14 hv14 => ?_)
  have z14 := z01 hv14
  refine j_if_eq F 32 (by decide) (by omega) dX3_model_17 (fun c17 => ?_) (fun c17 => ?_)
  · skip
    refine j_iconst F dX3_model_32 ?_
    exact j_iret F E (Nat.zero_le _) (Nat.zero_le _) dX3_model_33 (ti_post hT ⟨⟨rfl, rfl, rfl, rfl, rfl, rfl⟩, rfl, by split at hv14 <;> split <;> omega⟩)
  · skip
    have hin : 1 ≤ a ∧ a ≤ M 1 14 := by split at hv14 <;> omega
    refine j_aload_n F rfl dX3_model_20 ?_
    refine t_get F hT 1 (by decide) rfl q1487 dX3_model_21 ?_
    refine j_bipush F (by decide) dX3_model_24 ?_
    refine j_iload_n F rfl dX3_model_26 ?_
    refine j_iadd F dX3_model_27 ?_
    refine t_ialdw F hT 1 tm_1 (M 1 (94 + a)) rfl (by omega) dX3_model_28 ?_
    refine j_goto F 33 (by decide) dX3_model_29 ?_
    exact j_iret F E (Nat.zero_le _) (Nat.zero_le _) dX3_model_33 (ti_post hT ⟨⟨rfl, rfl, rfl, rfl, rfl, rfl⟩, rfl, by split at hv14 <;> split <;> omega⟩)

theorem pd_X3_core : yX3_core.cls = RX3 ∧ yX3_core.cls ≠ "java/lang/invoke/MethodHandle" ∧ yX3_core.cls ≠ "java/lang/invoke/VarHandle" ∧ (parseMethodDescriptor yX3_core.desc).map (fun d => d.parameters.length) = some 0 := by decide +kernel
theorem ct_X3_core (l : Launch) (G : Gt) (KS : Ks l G) (x : Nat) (M : Mt) : TI l G yX3_core cX3_core 1 (some FieldType.int) 1 x [] M (fun v M' => tsm M M' ∧ M' 1 = M 1 ∧ v = M 1 13) := by
  intro h0 h hT
  refine ct_of KS (by decide) (Nat.le_of_ble_eq_true rfl) (fun X F E => ?_)
  refine j_lv (lv' := [(0, .ref x)]) ⟨rfl, trivial⟩ ?_
  refine j_aload_n F rfl dX3_core_0 ?_
  refine j_iconst F dX3_core_1 ?_
  refine t_put F hT 0 (by decide) rfl rfl rfl (by decide) q1486 dX3_core_2 (fun h hT => ?_)
  refine j_aload_n F rfl dX3_core_5 ?_
  refine t_get F hT 1 (by decide) rfl q1487 dX3_core_6 ?_
  refine j_bipush F (by decide) dX3_core_9 ?_
  refine t_iald F hT 1 tm_1 (by omega) dX3_core_11 ?_
  exact j_iret F E (Nat.zero_le _) (Nat.zero_le _) dX3_core_12 (ti_post hT ⟨⟨rfl, rfl, rfl, rfl, rfl, rfl⟩, rfl, rfl⟩)

theorem pd_X3_closed : yX3_closed.cls = RX3 ∧ yX3_closed.cls ≠ "java/lang/invoke/MethodHandle" ∧ yX3_closed.cls ≠ "java/lang/invoke/VarHandle" ∧ (parseMethodDescriptor yX3_closed.desc).map (fun d => d.parameters.length) = some 0 := by decide +kernel
theorem ct_X3_closed (l : Launch) (G : Gt) (KS : Ks l G) (x : Nat) (M : Mt) : TI l G yX3_closed cX3_closed 1 (some FieldType.int) 1 x [] M (fun v M' => tsm M M' ∧ M' 1 = M 1 ∧ v = M 1 15) := by
  intro h0 h hT
  refine ct_of KS (by decide) (Nat.le_of_ble_eq_true rfl) (fun X F E => ?_)
  refine j_lv (lv' := [(0, .ref x)]) ⟨rfl, trivial⟩ ?_
  refine j_aload_n F rfl dX3_closed_0 ?_
  refine j_iconst F dX3_closed_1 ?_
  refine t_put F hT 0 (by decide) rfl rfl rfl (by decide) q1486 dX3_closed_2 (fun h hT => ?_)
  refine j_aload_n F rfl dX3_closed_5 ?_
  refine t_get F hT 1 (by decide) rfl q1487 dX3_closed_6 ?_
  refine j_bipush F (by decide) dX3_closed_9 ?_
  refine t_iald F hT 1 tm_1 (by omega) dX3_closed_11 ?_
  exact j_iret F E (Nat.zero_le _) (Nat.zero_le _) dX3_closed_12 (ti_post hT ⟨⟨rfl, rfl, rfl, rfl, rfl, rfl⟩, rfl, rfl⟩)

theorem pd_X3_fault : yX3_fault.cls = RX3 ∧ yX3_fault.cls ≠ "java/lang/invoke/MethodHandle" ∧ yX3_fault.cls ≠ "java/lang/invoke/VarHandle" ∧ (parseMethodDescriptor yX3_fault.desc).map (fun d => d.parameters.length) = some 0 := by decide +kernel
theorem ct_X3_fault (l : Launch) (G : Gt) (KS : Ks l G) (x : Nat) (M : Mt) : TI l G yX3_fault cX3_fault 1 (some FieldType.int) 1 x [] M (fun v M' => tsm M M' ∧ M' 1 = M 1 ∧ v = M 25 0) := by
  intro h0 h hT
  refine ct_of KS (by decide) (Nat.le_of_ble_eq_true rfl) (fun X F E => ?_)
  refine j_lv (lv' := [(0, .ref x)]) ⟨rfl, trivial⟩ ?_
  refine j_aload_n F rfl dX3_fault_0 ?_
  refine j_iconst F dX3_fault_1 ?_
  refine t_put F hT 0 (by decide) rfl rfl rfl (by decide) q1486 dX3_fault_2 (fun h hT => ?_)
  refine j_aload_n F rfl dX3_fault_5 ?_
  refine t_get F hT 25 (by decide) rfl q1511 dX3_fault_6 ?_
  exact j_iret F E (Nat.zero_le _) (Nat.zero_le _) dX3_fault_9 (ti_post hT ⟨⟨rfl, rfl, rfl, rfl, rfl, rfl⟩, rfl, rfl⟩)
