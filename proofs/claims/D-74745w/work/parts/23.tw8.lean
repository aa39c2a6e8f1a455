theorem pd_X3_add : yX3_add.cls = RX3 ∧ yX3_add.cls ≠ "java/lang/invoke/MethodHandle" ∧ yX3_add.cls ≠ "java/lang/invoke/VarHandle" ∧ (parseMethodDescriptor yX3_add.desc).map (fun d => d.parameters.length) = some 1 := by decide +kernel
theorem ct_X3_add (l : Launch) (G : Gt) (KS : Ks l G) (x : Nat) (M : Mt) {a : Int} (ha : rg a) (hR : RI (M 1)) : TI l G yX3_add cX3_add 3 (some FieldType.int) 4 x [vI a] M (fun v M' => tsm M M' ∧ Spt 24 4 (M 1) a v (M' 1)) := by
  intro h0 h hT
  refine ct_of KS (by decide) (Nat.le_of_ble_eq_true rfl) (fun X F E => ?_)
  refine j_lv (lv' := [(0, .ref x), (1, vI a)]) ⟨rfl, rfl, trivial⟩ ?_
  have ha' := ha
  unfold rg at ha
  have hV := hR.V
  have h4 := hR.ad
  refine j_aload_n F rfl dX3_add_0 ?_
  refine j_iconst F dX3_add_1 ?_
  refine t_put F hT 0 (by decide) rfl rfl rfl (by decide) q1486 dX3_add_2 (fun h hT => ?_)
  refine j_aload_n F rfl dX3_add_5 ?_
  refine t_get F hT 1 (by decide) rfl q1487 dX3_add_6 ?_
  refine j_iconst F dX3_add_9 ?_
  refine t_ialdw F hT 1 tm_1 (M 1 4) rfl (by omega) dX3_add_10 ?_
  refine j_bipush F (by decide) dX3_add_11 ?_
  refine j_icmp_eq F 24 (by decide) (by omega) (by omega) dX3_add_13 (fun c13 => ?_) (fun c13 => ?_)
  · skip
    have hC : M 1 4 = 8 ∨ ¬ lok (M 1 0) a ∨ thr (M 1) 24 (M 1 4) a := Or.inl c13
    refine j_iconst F dX3_add_24 ?_
    exact j_iret F E (Nat.zero_le _) (Nat.zero_le _) dX3_add_25 (ti_post hT ⟨⟨rfl, rfl, rfl, rfl, rfl, rfl⟩, fun _ => ⟨rfl, rfl⟩, fun q => absurd hC q⟩)
  · skip
    refine j_aload_n F rfl dX3_add_16 ?_
    refine j_iload_n F rfl dX3_add_17 ?_
    refine t_callI F hT (ct_X3_isLiteral l G KS x _ ha' (by exact hV)) (by decide) (by decide) (lw_V q1587 q1589 qs51 q110 q1590) pd_X3_isLiteral rfl (Nat.le_of_ble_eq_true rfl) (Nat.le_refl _) (Nat.le_refl _) dX3_add_18 (fun v18 M' h hv18 hT => ?_)
    obtain ⟨hv18, rfl⟩ := hv18
    have e18 : (v18 = 1 ↔ lok (M 1 0) a) ∧ (v18 = 0 ∨ v18 = 1) := hv18
    refine j_if_ne F 26 (by decide) (by omega) dX3_add_21 (fun c21 => ?_) (fun c21 => ?_)
    · skip
      have hlk : lok (M 1 0) a := e18.1.mp (by omega)
      have hik := iab_lok hlk
      refine j_iconst F dX3_add_26 ?_
      refine j_istore_n F (by decide) dX3_add_27 ?_
      have L28 : ∀ (m28 : Nat) (i : Int) (h : Hp), (0 ≤ i ∧ i ≤ M 1 4 ∧ ∀ k : Int, 0 ≤ k → k < i → ¬ iab (M 1 (24 + k)) = iab a) → (M 1 4 - i).toNat < m28 → Tw G x (oM M 0 0 0) h0 h → J X h 28 [(0, .ref x), (1, vI a), (2, vI i)] [] 0 0 := by
        intro m28
        induction m28 with
        | zero => intro i h hI hm28 hT; exact absurd hm28 (Nat.not_lt_zero _)
        | succ m28 ih28 =>
          intro i h hI hm28 hT
          obtain ⟨hI0, hI1, hI2⟩ := hI
          refine j_iload_n F rfl dX3_add_28 ?_
          refine j_aload_n F rfl dX3_add_29 ?_
          refine t_get F hT 1 (by decide) rfl q1487 dX3_add_30 ?_
          refine j_iconst F dX3_add_33 ?_
          refine t_ialdw F hT 1 tm_1 (M 1 4) rfl (by omega) dX3_add_34 ?_
          refine j_icmp_ge F 65 (by decide) (by omega) (by omega) dX3_add_35 (fun c35 => ?_) (fun c35 => ?_)
          · skip
            refine j_aload_n F rfl dX3_add_65 ?_
            refine t_get F hT 1 (by decide) rfl q1487 dX3_add_66 ?_
            refine j_bipush F (by decide) dX3_add_69 ?_
            refine j_aload_n F rfl dX3_add_71 ?_
            refine t_get F hT 1 (by decide) rfl q1487 dX3_add_72 ?_
            refine j_iconst F dX3_add_75 ?_
            refine t_ialdw F hT 1 tm_1 (M 1 4) rfl (by omega) dX3_add_76 ?_
            refine j_iadd F dX3_add_77 ?_
            refine j_iload_n F rfl dX3_add_78 ?_
            refine t_iast F hT 1 tm_1 rfl (by omega) dX3_add_79 (fun h hT => ?_)
            refine j_aload_n F rfl dX3_add_80 ?_
            refine t_get F hT 1 (by decide) rfl q1487 dX3_add_81 ?_
            refine j_iconst F dX3_add_84 ?_
            refine j_dup2 F rfl rfl dX3_add_85 ?_
            refine t_ialdw F hT 1 tm_1 (M 1 4) (by show oI (M 1) _ _ _ = _; rw [oI_n _ _ (by omega)]) (by omega) dX3_add_86 ?_
            refine j_iconst F dX3_add_87 ?_
            refine j_iadd F dX3_add_88 ?_
            refine t_iast F hT 1 tm_1 rfl (by omega) dX3_add_89 (fun h hT => ?_)
            refine j_aload_n F rfl dX3_add_90 ?_
            refine t_get F hT 1 (by decide) rfl q1487 dX3_add_91 ?_
            refine j_iconst F dX3_add_94 ?_
            refine t_ialdw F hT 1 tm_1 (M 1 4 + 1) (by rw [oM_s, oI_s]) (by omega) dX3_add_95 ?_
            exact j_iret F E (Nat.zero_le _) (Nat.zero_le _) dX3_add_96 (ti_post hT ⟨⟨rfl, rfl, rfl, rfl, rfl, rfl⟩, fun q => absurd q (fun q => by rcases q with q | q | ⟨k, k0, k1, k2⟩; exact c13 q; exact q hlk; exact hI2 k k0 (by omega) k2), fun _ => ⟨rfl, rfl⟩⟩)
          · skip
            have hl9 := hR.adl hI0 (by omega)
            have hi9 := iab_lok hl9
            unfold lok at hl9
            refine j_aload_n F rfl dX3_add_38 ?_
            refine t_get F hT 1 (by decide) rfl q1487 dX3_add_39 ?_
            refine j_bipush F (by decide) dX3_add_42 ?_
            refine j_iload_n F rfl dX3_add_44 ?_
            refine j_iadd F dX3_add_45 ?_
            refine t_ialdw F hT 1 tm_1 (M 1 (24 + i)) rfl (by omega) dX3_add_46 ?_
            refine s_callI F (ct_X3_size l G KS (a := M 1 (24 + i)) (by unfold rg; omega)) (by decide) (by decide) (lw_S q1591 q1592 q110 q1593) pd_X3_size rfl (Nat.le_of_ble_eq_true rfl) (Nat.le_refl _) (Nat.le_refl _) dX3_add_47 (fun v47 hv47 => ?_)
            subst hv47
            refine j_iload_n F rfl dX3_add_50 ?_
            refine s_callI F (ct_X3_size l G KS ha') (by decide) (by decide) (lw_S q1591 q1592 q110 q1593) pd_X3_size rfl (Nat.le_of_ble_eq_true rfl) (Nat.le_refl _) (Nat.le_refl _) dX3_add_51 (fun v51 hv51 => ?_)
            subst hv51
            refine j_icmp_ne F 59 (by decide) (by omega) (by omega) dX3_add_54 (fun c54 => ?_) (fun c54 => ?_)
            · skip
              refine j_iinc F rfl (by decide) dX3_add_59 ?_
              refine j_goto F 28 (by decide) dX3_add_62 ?_
              refine j_lv (lv' := [(0, .ref x), (1, vI a), (2, vI (i + 1))]) ⟨rfl, rfl, rfl, trivial⟩ ?_
              exact ih28 (i + 1) _ ⟨by omega, by omega, fun k c0 c1 => if e : k = i then (by rw [e]; omega) else hI2 k c0 (by omega)⟩ (by omega) hT
            · skip
              have hC : M 1 4 = 8 ∨ ¬ lok (M 1 0) a ∨ thr (M 1) 24 (M 1 4) a := Or.inr (Or.inr ⟨i, hI0, by omega, c54⟩)
              refine j_iconst F dX3_add_57 ?_
              exact j_iret F E (Nat.zero_le _) (Nat.zero_le _) dX3_add_58 (ti_post hT ⟨⟨rfl, rfl, rfl, rfl, rfl, rfl⟩, fun _ => ⟨rfl, rfl⟩, fun q => absurd hC q⟩)
      refine j_lv (lv' := [(0, .ref x), (1, vI a), (2, vI 0)]) ⟨rfl, rfl, rfl, trivial⟩ ?_
      exact L28 _ 0 _ ⟨by omega, by omega, fun k k0 k1 => by omega⟩ (Nat.lt_succ_self _) hT
    · skip
      have hC : M 1 4 = 8 ∨ ¬ lok (M 1 0) a ∨ thr (M 1) 24 (M 1 4) a := Or.inr (Or.inl (fun q => absurd (e18.1.mpr q) (by omega)))
      refine j_iconst F dX3_add_24 ?_
      exact j_iret F E (Nat.zero_le _) (Nat.zero_le _) dX3_add_25 (ti_post hT ⟨⟨rfl, rfl, rfl, rfl, rfl, rfl⟩, fun _ => ⟨rfl, rfl⟩, fun q => absurd hC q⟩)

theorem pd_X3_assume : yX3_assume.cls = RX3 ∧ yX3_assume.cls ≠ "java/lang/invoke/MethodHandle" ∧ yX3_assume.cls ≠ "java/lang/invoke/VarHandle" ∧ (parseMethodDescriptor yX3_assume.desc).map (fun d => d.parameters.length) = some 1 := by decide +kernel
theorem ct_X3_assume (l : Launch) (G : Gt) (KS : Ks l G) (x : Nat) (M : Mt) {a : Int} (ha : rg a) (hR : RI (M 1)) : TI l G yX3_assume cX3_assume 3 (some FieldType.int) 4 x [vI a] M (fun v M' => tsm M M' ∧ Spt 16 3 (M 1) a v (M' 1)) := by
  intro h0 h hT
  refine ct_of KS (by decide) (Nat.le_of_ble_eq_true rfl) (fun X F E => ?_)
  refine j_lv (lv' := [(0, .ref x), (1, vI a)]) ⟨rfl, rfl, trivial⟩ ?_
  have ha' := ha
  unfold rg at ha
  have hV := hR.V
  have h4 := hR.as
  refine j_aload_n F rfl dX3_assume_0 ?_
  refine j_iconst F dX3_assume_1 ?_
  refine t_put F hT 0 (by decide) rfl rfl rfl (by decide) q1486 dX3_assume_2 (fun h hT => ?_)
  refine j_aload_n F rfl dX3_assume_5 ?_
  refine t_get F hT 1 (by decide) rfl q1487 dX3_assume_6 ?_
  refine j_iconst F dX3_assume_9 ?_
  refine t_ialdw F hT 1 tm_1 (M 1 3) rfl (by omega) dX3_assume_10 ?_
  refine j_bipush F (by decide) dX3_assume_11 ?_
  refine j_icmp_eq F 24 (by decide) (by omega) (by omega) dX3_assume_13 (fun c13 => ?_) (fun c13 => ?_)
  · skip
    have hC : M 1 3 = 8 ∨ ¬ lok (M 1 0) a ∨ thr (M 1) 16 (M 1 3) a := Or.inl c13
    refine j_iconst F dX3_assume_24 ?_
    exact j_iret F E (Nat.zero_le _) (Nat.zero_le _) dX3_assume_25 (ti_post hT ⟨⟨rfl, rfl, rfl, rfl, rfl, rfl⟩, fun _ => ⟨rfl, rfl⟩, fun q => absurd hC q⟩)
  · skip
    refine j_aload_n F rfl dX3_assume_16 ?_
    refine j_iload_n F rfl dX3_assume_17 ?_
    refine t_callI F hT (ct_X3_isLiteral l G KS x _ ha' (by exact hV)) (by decide) (by decide) (lw_V q1587 q1589 qs51 q110 q1590) pd_X3_isLiteral rfl (Nat.le_of_ble_eq_true rfl) (Nat.le_refl _) (Nat.le_refl _) dX3_assume_18 (fun v18 M' h hv18 hT => ?_)
    obtain ⟨hv18, rfl⟩ := hv18
    have e18 : (v18 = 1 ↔ lok (M 1 0) a) ∧ (v18 = 0 ∨ v18 = 1) := hv18
    refine j_if_ne F 26 (by decide) (by omega) dX3_assume_21 (fun c21 => ?_) (fun c21 => ?_)
    · skip
      have hlk : lok (M 1 0) a := e18.1.mp (by omega)
      have hik := iab_lok hlk
      refine j_iconst F dX3_assume_26 ?_
      refine j_istore_n F (by decide) dX3_assume_27 ?_
      have L28 : ∀ (m28 : Nat) (i : Int) (h : Hp), (0 ≤ i ∧ i ≤ M 1 3 ∧ ∀ k : Int, 0 ≤ k → k < i → ¬ iab (M 1 (16 + k)) = iab a) → (M 1 3 - i).toNat < m28 → Tw G x (oM M 0 0 0) h0 h → J X h 28 [(0, .ref x), (1, vI a), (2, vI i)] [] 0 0 := by
        intro m28
        induction m28 with
        | zero => intro i h hI hm28 hT; exact absurd hm28 (Nat.not_lt_zero _)
        | succ m28 ih28 =>
          intro i h hI hm28 hT
          obtain ⟨hI0, hI1, hI2⟩ := hI
          refine j_iload_n F rfl dX3_assume_28 ?_
          refine j_aload_n F rfl dX3_assume_29 ?_
          refine t_get F hT 1 (by decide) rfl q1487 dX3_assume_30 ?_
          refine j_iconst F dX3_assume_33 ?_
          refine t_ialdw F hT 1 tm_1 (M 1 3) rfl (by omega) dX3_assume_34 ?_
          refine j_icmp_ge F 65 (by decide) (by omega) (by omega) dX3_assume_35 (fun c35 => ?_) (fun c35 => ?_)
          · skip
            refine j_aload_n F rfl dX3_assume_65 ?_
            refine t_get F hT 1 (by decide) rfl q1487 dX3_assume_66 ?_
            refine j_bipush F (by decide) dX3_assume_69 ?_
            refine j_aload_n F rfl dX3_assume_71 ?_
            refine t_get F hT 1 (by decide) rfl q1487 dX3_assume_72 ?_
            refine j_iconst F dX3_assume_75 ?_
            refine t_ialdw F hT 1 tm_1 (M 1 3) rfl (by omega) dX3_assume_76 ?_
            refine j_iadd F dX3_assume_77 ?_
            refine j_iload_n F rfl dX3_assume_78 ?_
            refine t_iast F hT 1 tm_1 rfl (by omega) dX3_assume_79 (fun h hT => ?_)
            refine j_aload_n F rfl dX3_assume_80 ?_
            refine t_get F hT 1 (by decide) rfl q1487 dX3_assume_81 ?_
            refine j_iconst F dX3_assume_84 ?_
            refine j_dup2 F rfl rfl dX3_assume_85 ?_
            refine t_ialdw F hT 1 tm_1 (M 1 3) (by show oI (M 1) _ _ _ = _; rw [oI_n _ _ (by omega)]) (by omega) dX3_assume_86 ?_
            refine j_iconst F dX3_assume_87 ?_
            refine j_iadd F dX3_assume_88 ?_
            refine t_iast F hT 1 tm_1 rfl (by omega) dX3_assume_89 (fun h hT => ?_)
            refine j_aload_n F rfl dX3_assume_90 ?_
            refine t_get F hT 1 (by decide) rfl q1487 dX3_assume_91 ?_
            refine j_iconst F dX3_assume_94 ?_
            refine t_ialdw F hT 1 tm_1 (M 1 3 + 1) (by rw [oM_s, oI_s]) (by omega) dX3_assume_95 ?_
            exact j_iret F E (Nat.zero_le _) (Nat.zero_le _) dX3_assume_96 (ti_post hT ⟨⟨rfl, rfl, rfl, rfl, rfl, rfl⟩, fun q => absurd q (fun q => by rcases q with q | q | ⟨k, k0, k1, k2⟩; exact c13 q; exact q hlk; exact hI2 k k0 (by omega) k2), fun _ => ⟨rfl, rfl⟩⟩)
          · skip
            have hl9 := hR.asl hI0 (by omega)
            have hi9 := iab_lok hl9
            unfold lok at hl9
            refine j_aload_n F rfl dX3_assume_38 ?_
            refine t_get F hT 1 (by decide) rfl q1487 dX3_assume_39 ?_
            refine j_bipush F (by decide) dX3_assume_42 ?_
            refine j_iload_n F rfl dX3_assume_44 ?_
            refine j_iadd F dX3_assume_45 ?_
            refine t_ialdw F hT 1 tm_1 (M 1 (16 + i)) rfl (by omega) dX3_assume_46 ?_
            refine s_callI F (ct_X3_size l G KS (a := M 1 (16 + i)) (by unfold rg; omega)) (by decide) (by decide) (lw_S q1591 q1592 q110 q1593) pd_X3_size rfl (Nat.le_of_ble_eq_true rfl) (Nat.le_refl _) (Nat.le_refl _) dX3_assume_47 (fun v47 hv47 => ?_)
            subst hv47
            refine j_iload_n F rfl dX3_assume_50 ?_
            refine s_callI F (ct_X3_size l G KS ha') (by decide) (by decide) (lw_S q1591 q1592 q110 q1593) pd_X3_size rfl (Nat.le_of_ble_eq_true rfl) (Nat.le_refl _) (Nat.le_refl _) dX3_assume_51 (fun v51 hv51 => ?_)
            subst hv51
            refine j_icmp_ne F 59 (by decide) (by omega) (by omega) dX3_assume_54 (fun c54 => ?_) (fun c54 => ?_)
            · skip
              refine j_iinc F rfl (by decide) dX3_assume_59 ?_
              refine j_goto F 28 (by decide) dX3_assume_62 ?_
              refine j_lv (lv' := [(0, .ref x), (1, vI a), (2, vI (i + 1))]) ⟨rfl, rfl, rfl, trivial⟩ ?_
              exact ih28 (i + 1) _ ⟨by omega, by omega, fun k c0 c1 => if e : k = i then (by rw [e]; omega) else hI2 k c0 (by omega)⟩ (by omega) hT
            · skip
              have hC : M 1 3 = 8 ∨ ¬ lok (M 1 0) a ∨ thr (M 1) 16 (M 1 3) a := Or.inr (Or.inr ⟨i, hI0, by omega, c54⟩)
              refine j_iconst F dX3_assume_57 ?_
              exact j_iret F E (Nat.zero_le _) (Nat.zero_le _) dX3_assume_58 (ti_post hT ⟨⟨rfl, rfl, rfl, rfl, rfl, rfl⟩, fun _ => ⟨rfl, rfl⟩, fun q => absurd hC q⟩)
      refine j_lv (lv' := [(0, .ref x), (1, vI a), (2, vI 0)]) ⟨rfl, rfl, rfl, trivial⟩ ?_
      exact L28 _ 0 _ ⟨by omega, by omega, fun k k0 k1 => by omega⟩ (Nat.lt_succ_self _) hT
    · skip
      have hC : M 1 3 = 8 ∨ ¬ lok (M 1 0) a ∨ thr (M 1) 16 (M 1 3) a := Or.inr (Or.inl (fun q => absurd (e18.1.mpr q) (by omega)))
      refine j_iconst F dX3_assume_24 ?_
      exact j_iret F E (Nat.zero_le _) (Nat.zero_le _) dX3_assume_25 (ti_post hT ⟨⟨rfl, rfl, rfl, rfl, rfl, rfl⟩, fun _ => ⟨rfl, rfl⟩, fun q => absurd hC q⟩)

theorem pd_X3_close : yX3_close.cls = RX3 ∧ yX3_close.cls ≠ "java/lang/invoke/MethodHandle" ∧ yX3_close.cls ≠ "java/lang/invoke/VarHandle" ∧ (parseMethodDescriptor yX3_close.desc).map (fun d => d.parameters.length) = some 0 := by decide +kernel
theorem ct_X3_close (l : Launch) (G : Gt) (KS : Ks l G) (x : Nat) (M : Mt) (hR : RI (M 1)) : TI l G yX3_close cX3_close 3 (some FieldType.int) 2 x [] M (fun v M' => tsm M M' ∧ Sclose (M 1) v (M' 1)) := by
  intro h0 h hT
  refine ct_of KS (by decide) (Nat.le_of_ble_eq_true rfl) (fun X F E => ?_)
  refine j_lv (lv' := [(0, .ref x)]) ⟨rfl, trivial⟩ ?_
  have hV := hR.V
  have h4 := hR.ad
  have h2 := hR.told
  have h1 := hR.many
  refine j_aload_n F rfl dX3_close_0 ?_
  refine j_iconst F dX3_close_1 ?_
  refine t_put F hT 0 (by decide) rfl rfl rfl (by decide) q1486 dX3_close_2 (fun h hT => ?_)
  refine j_aload_n F rfl dX3_close_5 ?_
  refine t_get F hT 1 (by decide) rfl q1487 dX3_close_6 ?_
  refine j_iconst F dX3_close_9 ?_
  refine t_ialdw F hT 1 tm_1 (M 1 4) rfl (by omega) dX3_close_10 ?_
  refine j_if_eq F 21 (by decide) (by omega) dX3_close_11 (fun c11 => ?_) (fun c11 => ?_)
  · skip
    refine j_iconst F dX3_close_21 ?_
    exact j_iret F E (Nat.zero_le _) (Nat.zero_le _) dX3_close_22 (ti_post hT ⟨⟨rfl, rfl, rfl, rfl, rfl, rfl⟩, fun _ => ⟨rfl, rfl⟩, fun q => absurd (by omega) q⟩)
  · skip
    refine j_aload_n F rfl dX3_close_14 ?_
    refine t_callI F hT (ct_X3_isRoom l G KS x _ (show rg (M 1 2) ∧ rg (M 1 1) from ⟨by unfold rg; omega, by unfold rg; omega⟩)) (by decide) (by decide) (lw_V q1605 q1607 qs53 q110 q1608) pd_X3_isRoom rfl (Nat.le_of_ble_eq_true rfl) (Nat.le_refl _) (Nat.le_refl _) dX3_close_15 (fun v15 M' h hv15 hT => ?_)
    obtain ⟨hv15, rfl⟩ := hv15
    have e15 : v15 = if M 1 2 < 80 ∧ M 1 1 < 400 then 1 else 0 := hv15
    have z15 := z01 e15
    refine j_if_ne F 23 (by decide) (by omega) dX3_close_18 (fun c18 => ?_) (fun c18 => ?_)
    · skip
      have hyes : M 1 2 < 80 ∧ M 1 1 < 400 := by split at e15 <;> omega
      refine j_aload_n F rfl dX3_close_23 ?_
      refine j_iconst F dX3_close_24 ?_
      refine j_aload_n F rfl dX3_close_25 ?_
      refine t_get F hT 1 (by decide) rfl q1487 dX3_close_26 ?_
      refine j_iconst F dX3_close_29 ?_
      refine t_ialdw F hT 1 tm_1 (M 1 4) rfl (by omega) dX3_close_30 ?_
      refine t_callI F hT (ct_X3_begins l G KS x _ (f := 0) (n := M 1 4) (by unfold rg; omega) (show 0 ≤ M 1 1 ∧ M 1 1 < 400 from ⟨by omega, by omega⟩)) (by decide) (by decide) (lw_V q1609 q1611 qs54 q110 q1612) pd_X3_begins rfl (Nat.le_of_ble_eq_true rfl) (Nat.le_refl _) (Nat.le_refl _) dX3_close_31 (fun v31 M31 h hv31 hT => ?_)
      obtain ⟨e31, q31⟩ := (show v31 = M 1 1 ∧ M31 = sM (oM M 0 0 0) 1 (bgR (M 1) 0 (M 1 4)) from hv31)
      subst e31
      refine j_istore_n F (by decide) dX3_close_34 ?_
      refine j_iconst F dX3_close_35 ?_
      refine j_istore_n F (by decide) dX3_close_36 ?_
      have L37 : ∀ (m37 : Nat) (i : Int) (N : Mt) (h : Hp), (0 ≤ i ∧ i ≤ M 1 4 ∧ N = sM (oM M 0 0 0) 1 (putL (bgR (M 1) 0 (M 1 4)) (M 1 1) i (fun k => M 1 (24 + k)))) → (M 1 4 - i).toNat < m37 → Tw G x N h0 h → J X h 37 [(0, .ref x), (1, vI (M 1 1)), (2, vI i)] [] 0 0 := by
        intro m37
        induction m37 with
        | zero => intro i N h hI hm37 hT; exact absurd hm37 (Nat.not_lt_zero _)
        | succ m37 ih37 =>
          intro i N h hI hm37 hT
          obtain ⟨hI0, hI1, hI2⟩ := hI
          subst hI2
          refine j_iload_n F rfl dX3_close_37 ?_
          refine j_aload_n F rfl dX3_close_38 ?_
          refine t_get F hT 1 (by decide) rfl q1487 dX3_close_39 ?_
          refine j_iconst F dX3_close_42 ?_
          refine t_ialdw F hT 1 tm_1 (M 1 4) (by rw [sM_s, putL_n (by omega)]; unfold bgR; rw [oI_n _ _ (by omega), oI_n _ _ (by omega), oI_n _ _ (by omega), oI_n _ _ (by omega)]) (by omega) dX3_close_43 ?_
          refine j_icmp_ge F 77 (by decide) (by omega) (by omega) dX3_close_44 (fun c44 => ?_) (fun c44 => ?_)
          · skip
            refine j_aload_n F rfl dX3_close_77 ?_
            refine t_get F hT 1 (by decide) rfl q1487 dX3_close_78 ?_
            refine j_iconst F dX3_close_81 ?_
            refine j_iconst F dX3_close_82 ?_
            refine t_iast F hT 1 tm_1 rfl (by omega) dX3_close_83 (fun h hT => ?_)
            refine j_iload_n F rfl dX3_close_84 ?_
            exact j_iret F E (Nat.zero_le _) (Nat.zero_le _) dX3_close_85 (ti_post hT ⟨⟨rfl, rfl, rfl, rfl, rfl, rfl⟩, fun q => absurd q (by omega), fun _ => ⟨rfl, by rw [show M 1 4 = i by omega]; rfl⟩⟩)
          · skip
            refine j_aload_n F rfl dX3_close_47 ?_
            refine t_get F hT 1 (by decide) rfl q1487 dX3_close_48 ?_
            refine j_sipush F (by decide) dX3_close_51 ?_
            refine j_bipush F (by decide) dX3_close_54 ?_
            refine j_iload_n F rfl dX3_close_56 ?_
            refine j_imul F dX3_close_57 ?_
            refine j_iadd F dX3_close_58 ?_
            refine j_iload_n F rfl dX3_close_59 ?_
            refine j_iadd F dX3_close_60 ?_
            refine j_aload_n F rfl dX3_close_61 ?_
            refine t_get F hT 1 (by decide) rfl q1487 dX3_close_62 ?_
            refine j_bipush F (by decide) dX3_close_65 ?_
            refine j_iload_n F rfl dX3_close_67 ?_
            refine j_iadd F dX3_close_68 ?_
            refine t_ialdw F hT 1 tm_1 (M 1 (24 + i)) (by rw [sM_s, putL_n (by omega)]; unfold bgR; rw [oI_n _ _ (by omega), oI_n _ _ (by omega), oI_n _ _ (by omega), oI_n _ _ (by omega)]) (by omega) dX3_close_69 ?_
            refine t_iast F hT 1 tm_1 rfl (by omega) dX3_close_70 (fun h hT => ?_)
            refine j_iinc F rfl (by decide) dX3_close_71 ?_
            refine j_goto F 37 (by decide) dX3_close_74 ?_
            refine j_lv (lv' := [(0, .ref x), (1, vI (M 1 1)), (2, vI (i + 1))]) ⟨rfl, rfl, rfl, trivial⟩ ?_
            exact ih37 (i + 1) _ _ ⟨by omega, by omega, by rw [oM_sM, putL_s hI0 rfl]⟩ (by omega) hT
      refine j_lv (lv' := [(0, .ref x), (1, vI (M 1 1)), (2, vI 0)]) ⟨rfl, rfl, rfl, trivial⟩ ?_
      exact L37 _ 0 _ _ ⟨by omega, by omega, by rw [q31, putL_0]⟩ (Nat.lt_succ_self _) hT
    · skip
      have hno : ¬ (M 1 2 < 80 ∧ M 1 1 < 400) := by split at e15 <;> omega
      refine j_iconst F dX3_close_21 ?_
      exact j_iret F E (Nat.zero_le _) (Nat.zero_le _) dX3_close_22 (ti_post hT ⟨⟨rfl, rfl, rfl, rfl, rfl, rfl⟩, fun _ => ⟨rfl, rfl⟩, fun q => absurd (by omega) q⟩)

theorem pd_X3_free : yX3_free.cls = RX3 ∧ yX3_free.cls ≠ "java/lang/invoke/MethodHandle" ∧ yX3_free.cls ≠ "java/lang/invoke/VarHandle" ∧ (parseMethodDescriptor yX3_free.desc).map (fun d => d.parameters.length) = some 0 := by decide +kernel
theorem ct_X3_free (l : Launch) (G : Gt) (KS : Ks l G) (x : Nat) (M : Mt) (hR : RI (M 1)) : TI l G yX3_free cX3_free 2 (some FieldType.int) 1 x [] M (fun v M' => tsm M M' ∧ v = M 1 3 ∧ M' 1 = oI (M 1) 3 0) := by
  intro h0 h hT
  refine ct_of KS (by decide) (Nat.le_of_ble_eq_true rfl) (fun X F E => ?_)
  refine j_lv (lv' := [(0, .ref x)]) ⟨rfl, trivial⟩ ?_
  refine j_aload_n F rfl dX3_free_0 ?_
  refine j_iconst F dX3_free_1 ?_
  refine t_put F hT 0 (by decide) rfl rfl rfl (by decide) q1486 dX3_free_2 (fun h hT => ?_)
  refine j_aload_n F rfl dX3_free_5 ?_
  refine t_get F hT 1 (by decide) rfl q1487 dX3_free_6 ?_
  refine j_iconst F dX3_free_9 ?_
  refine t_iald F hT 1 tm_1 (by omega) dX3_free_10 ?_
  refine j_istore_n F (by decide) dX3_free_11 ?_
  refine j_aload_n F rfl dX3_free_12 ?_
  refine t_get F hT 1 (by decide) rfl q1487 dX3_free_13 ?_
  refine j_iconst F dX3_free_16 ?_
  refine j_iconst F dX3_free_17 ?_
  refine t_iast F hT 1 tm_1 rfl (by omega) dX3_free_18 (fun h hT => ?_)
  refine j_iload_n F rfl dX3_free_19 ?_
  exact j_iret F E (Nat.zero_le _) (Nat.zero_le _) dX3_free_20 (ti_post hT ⟨⟨rfl, rfl, rfl, rfl, rfl, rfl⟩, rfl, rfl⟩)

theorem pd_X3_phase : yX3_phase.cls = RX3 ∧ yX3_phase.cls ≠ "java/lang/invoke/MethodHandle" ∧ yX3_phase.cls ≠ "java/lang/invoke/VarHandle" ∧ (parseMethodDescriptor yX3_phase.desc).map (fun d => d.parameters.length) = some 1 := by decide +kernel
theorem ct_X3_phase (l : Launch) (G : Gt) (KS : Ks l G) (x : Nat) (M : Mt) {a : Int} (ha : rg a) (hR : RI (M 1)) : TI l G yX3_phase cX3_phase 2 (some FieldType.boolean) 4 x [vI a] M (fun v M' => tsm M M' ∧ Sphase (M 1) a v (M' 1)) := by
  intro h0 h hT
  refine ct_of KS (by decide) (Nat.le_of_ble_eq_true rfl) (fun X F E => ?_)
  refine j_lv (lv' := [(0, .ref x), (1, vI a)]) ⟨rfl, rfl, trivial⟩ ?_
  have ha' := ha
  unfold rg at ha
  have hV := hR.V
  refine j_aload_n F rfl dX3_phase_0 ?_
  refine j_iconst F dX3_phase_1 ?_
  refine t_put F hT 0 (by decide) rfl rfl rfl (by decide) q1486 dX3_phase_2 (fun h hT => ?_)
  refine j_aload_n F rfl dX3_phase_5 ?_
  refine j_iload_n F rfl dX3_phase_6 ?_
  refine t_callI F hT (ct_X3_isLiteral l G KS x _ ha' (by exact hV)) (by decide) (by decide) (lw_V q1587 q1589 qs51 q110 q1590) pd_X3_isLiteral rfl (Nat.le_of_ble_eq_true rfl) (Nat.le_refl _) (Nat.le_refl _) dX3_phase_7 (fun v7 M' h hv7 hT => ?_)
  obtain ⟨hv7, rfl⟩ := hv7
  have e7 : (v7 = 1 ↔ lok (M 1 0) a) ∧ (v7 = 0 ∨ v7 = 1) := hv7
  refine j_if_eq F 37 (by decide) (by omega) dX3_phase_10 (fun c10 => ?_) (fun c10 => ?_)
  · skip
    have hC : ¬ lok (M 1 0) a ∨ M 1 (32 + iab a) = (if 0 < a then 1 else 0) := Or.inl (fun q => absurd (e7.1.mpr q) (by omega))
    refine j_iconst F dX3_phase_37 ?_
    exact j_zret F E (by omega) (Nat.zero_le _) (Nat.zero_le _) dX3_phase_38 (ti_post hT ⟨⟨rfl, rfl, rfl, rfl, rfl, rfl⟩, fun _ => ⟨rfl, rfl⟩, fun q => absurd hC q⟩)
  · skip
    have hlk : lok (M 1 0) a := e7.1.mp (by omega)
    have hik := iab_lok hlk
    have hph := hR.ph (v := iab a) (by omega) (by omega)
    refine j_aload_n F rfl dX3_phase_13 ?_
    refine t_get F hT 1 (by decide) rfl q1487 dX3_phase_14 ?_
    refine j_bipush F (by decide) dX3_phase_17 ?_
    refine j_iload_n F rfl dX3_phase_19 ?_
    refine s_callI F (ct_X3_size l G KS ha') (by decide) (by decide) (lw_S q1591 q1592 q110 q1593) pd_X3_size rfl (Nat.le_of_ble_eq_true rfl) (Nat.le_refl _) (Nat.le_refl _) dX3_phase_20 (fun v20 hv20 => ?_)
    subst hv20
    refine j_iadd F dX3_phase_23 ?_
    refine t_ialdw F hT 1 tm_1 (M 1 (32 + iab a)) rfl (by omega) dX3_phase_24 ?_
    refine j_joinT (x := x) (M := oM M 0 0 0) (G := G) (h0 := h0) 34 (fun w => w = if 0 < a then 1 else 0) (fun w h hw hT => ?_) (fun Kj25 => ?_)
    · skip
      have hw9 := hw
      refine j_icmp_ne F 39 (by decide) (by omega) (by split at hw <;> omega) dX3_phase_34 (fun c34 => ?_) (fun c34 => ?_)
      · skip
        skip
        refine j_aload_n F rfl dX3_phase_39 ?_
        refine t_get F hT 1 (by decide) rfl q1487 dX3_phase_40 ?_
        refine j_bipush F (by decide) dX3_phase_43 ?_
        refine j_iload_n F rfl dX3_phase_45 ?_
        refine s_callI F (ct_X3_size l G KS ha') (by decide) (by decide) (lw_S q1591 q1592 q110 q1593) pd_X3_size rfl (Nat.le_of_ble_eq_true rfl) (Nat.le_refl _) (Nat.le_refl _) dX3_phase_46 (fun v46 hv46 => ?_)
        subst hv46
        refine j_iadd F dX3_phase_49 ?_
        refine j_joinT (x := x) (M := oM M 0 0 0) (G := G) (h0 := h0) 59 (fun w => w = if 0 < a then 1 else 0) (fun w h hw hT => ?_) (fun Kj50 => ?_)
        · skip
          refine t_iast F hT 1 tm_1 rfl (by omega) dX3_phase_59 (fun h hT => ?_)
          refine j_iconst F dX3_phase_60 ?_
          exact j_zret F E (by omega) (Nat.zero_le _) (Nat.zero_le _) dX3_phase_61 (ti_post hT ⟨⟨rfl, rfl, rfl, rfl, rfl, rfl⟩, fun q => absurd q (fun q => by rcases q with q | q; exact q hlk; exact c34 (q.trans hw9.symm)), fun _ => ⟨rfl, by rw [← hw]; rfl⟩⟩)
        · skip
          refine j_iload_n F rfl dX3_phase_50 ?_
          refine j_if_le F 58 (by decide) (by omega) dX3_phase_51 (fun c51 => ?_) (fun c51 => ?_)
          · skip
            refine j_iconst F dX3_phase_58 ?_
            exact Kj50 _ _ (by split <;> omega) hT
          · skip
            refine j_iconst F dX3_phase_54 ?_
            refine j_goto F 59 (by decide) dX3_phase_55 ?_
            exact Kj50 _ _ (by split <;> omega) hT
      · skip
        have hC : ¬ lok (M 1 0) a ∨ M 1 (32 + iab a) = (if 0 < a then 1 else 0) := Or.inr (c34.trans hw)
        refine j_iconst F dX3_phase_37 ?_
        exact j_zret F E (by omega) (Nat.zero_le _) (Nat.zero_le _) dX3_phase_38 (ti_post hT ⟨⟨rfl, rfl, rfl, rfl, rfl, rfl⟩, fun _ => ⟨rfl, rfl⟩, fun q => absurd hC q⟩)
    · skip
      refine j_iload_n F rfl dX3_phase_25 ?_
      refine j_if_le F 33 (by decide) (by omega) dX3_phase_26 (fun c26 => ?_) (fun c26 => ?_)
      · skip
        refine j_iconst F dX3_phase_33 ?_
        exact Kj25 _ _ (by split <;> omega) hT
      · skip
        refine j_iconst F dX3_phase_29 ?_
        refine j_goto F 34 (by decide) dX3_phase_30 ?_
        exact Kj25 _ _ (by split <;> omega) hT

theorem pd_X3_unit : yX3_unit.cls = RX3 ∧ yX3_unit.cls ≠ "java/lang/invoke/MethodHandle" ∧ yX3_unit.cls ≠ "java/lang/invoke/VarHandle" ∧ (parseMethodDescriptor yX3_unit.desc).map (fun d => d.parameters.length) = some 1 := by decide +kernel
theorem ct_X3_unit (l : Launch) (G : Gt) (KS : Ks l G) (x : Nat) (M : Mt) {a : Int} (ha : rg a) (hR : RI (M 1)) : TI l G yX3_unit cX3_unit 2 (some FieldType.boolean) 2 x [vI a] M (fun v M' => tsm M M' ∧ Sunit (M 1) a v (M' 1)) := by
  intro h0 h hT
  refine ct_of KS (by decide) (Nat.le_of_ble_eq_true rfl) (fun X F E => ?_)
  refine j_lv (lv' := [(0, .ref x), (1, vI a)]) ⟨rfl, rfl, trivial⟩ ?_
  have ha' := ha
  unfold rg at ha
  have he := hR.each
  refine j_aload_n F rfl dX3_unit_0 ?_
  refine j_iconst F dX3_unit_1 ?_
  refine t_put F hT 0 (by decide) rfl rfl rfl (by decide) q1486 dX3_unit_2 (fun h hT => ?_)
  refine j_iload_n F rfl dX3_unit_5 ?_
  refine j_iconst F dX3_unit_6 ?_
  refine j_bipush F (by decide) dX3_unit_7 ?_
  refine s_callI F (ct_X3_isIn l G KS ha' (b := 0) (c := 50) (by unfold rg; omega) (by unfold rg; omega)) (by decide) (by decide) (lw_S q1598 q1599 q110 q1600) pd_X3_isIn rfl (Nat.le_of_ble_eq_true rfl) (Nat.le_refl _) (Nat.le_refl _) dX3_unit_9 (fun v9 hv9 => ?_)
  have z9 := z01 hv9
  refine j_if_eq F 25 (by decide) (by omega) dX3_unit_12 (fun c12 => ?_) (fun c12 => ?_)
  · skip
    refine j_iconst F dX3_unit_25 ?_
    exact j_zret F E (by omega) (Nat.zero_le _) (Nat.zero_le _) dX3_unit_26 (ti_post hT ⟨⟨rfl, rfl, rfl, rfl, rfl, rfl⟩, fun _ => ⟨rfl, rfl⟩, fun q => absurd (by split at hv9 <;> omega) q⟩)
  · skip
    refine j_aload_n F rfl dX3_unit_15 ?_
    refine t_get F hT 1 (by decide) rfl q1487 dX3_unit_16 ?_
    refine j_iconst F dX3_unit_19 ?_
    refine t_ialdw F hT 1 tm_1 (M 1 5) rfl (by omega) dX3_unit_20 ?_
    refine j_iload_n F rfl dX3_unit_21 ?_
    refine j_icmp_ne F 27 (by decide) (by omega) (by omega) dX3_unit_22 (fun c22 => ?_) (fun c22 => ?_)
    · skip
      refine j_aload_n F rfl dX3_unit_27 ?_
      refine t_get F hT 1 (by decide) rfl q1487 dX3_unit_28 ?_
      refine j_iconst F dX3_unit_31 ?_
      refine j_iload_n F rfl dX3_unit_32 ?_
      refine t_iast F hT 1 tm_1 rfl (by omega) dX3_unit_33 (fun h hT => ?_)
      refine j_iconst F dX3_unit_34 ?_
      exact j_zret F E (by omega) (Nat.zero_le _) (Nat.zero_le _) dX3_unit_35 (ti_post hT ⟨⟨rfl, rfl, rfl, rfl, rfl, rfl⟩, fun q => absurd q (by split at hv9 <;> omega), fun _ => ⟨rfl, rfl⟩⟩)
    · skip
      refine j_iconst F dX3_unit_25 ?_
      exact j_zret F E (by omega) (Nat.zero_le _) (Nat.zero_le _) dX3_unit_26 (ti_post hT ⟨⟨rfl, rfl, rfl, rfl, rfl, rfl⟩, fun _ => ⟨rfl, rfl⟩, fun q => absurd (by split at hv9 <;> omega) q⟩)

theorem pd_X3_forget : yX3_forget.cls = RX3 ∧ yX3_forget.cls ≠ "java/lang/invoke/MethodHandle" ∧ yX3_forget.cls ≠ "java/lang/invoke/VarHandle" ∧ (parseMethodDescriptor yX3_forget.desc).map (fun d => d.parameters.length) = some 1 := by decide +kernel
theorem ct_X3_forget (l : Launch) (G : Gt) (KS : Ks l G) (x : Nat) (M : Mt) {a : Int} (ha : rg a) (hR : RI (M 1)) : TI l G yX3_forget cX3_forget 4 (some FieldType.int) 2 x [vI a] M (fun v M' => tsm M M' ∧ Sforget (M 1) a v (M' 1)) := by
  intro h0 h hT
  refine ct_of KS (by decide) (Nat.le_of_ble_eq_true rfl) (fun X F E => ?_)
  refine j_lv (lv' := [(0, .ref x), (1, vI a)]) ⟨rfl, rfl, trivial⟩ ?_
  have ha' := ha
  unfold rg at ha
  have hm := hR.many
  refine j_aload_n F rfl dX3_forget_0 ?_
  refine j_iconst F dX3_forget_1 ?_
  refine t_put F hT 0 (by decide) rfl rfl rfl (by decide) q1486 dX3_forget_2 (fun h hT => ?_)
  refine j_iload_n F rfl dX3_forget_5 ?_
  refine j_iconst F dX3_forget_6 ?_
  refine j_bipush F (by decide) dX3_forget_7 ?_
  refine s_callI F (ct_X3_isIn l G KS ha' (b := 1) (c := 30) (by unfold rg; omega) (by unfold rg; omega)) (by decide) (by decide) (lw_S q1598 q1599 q110 q1600) pd_X3_isIn rfl (Nat.le_of_ble_eq_true rfl) (Nat.le_refl _) (Nat.le_refl _) dX3_forget_9 (fun v9 hv9 => ?_)
  have z9 := z01 hv9
  refine j_if_ne F 17 (by decide) (by omega) dX3_forget_12 (fun c12 => ?_) (fun c12 => ?_)
  · skip
    refine j_iconst F dX3_forget_17 ?_
    refine j_istore_n F (by decide) dX3_forget_18 ?_
    refine j_iconst F dX3_forget_19 ?_
    refine j_istore_n F (by decide) dX3_forget_20 ?_
    have L21 : ∀ (m21 : Nat) (i nn : Int) (N : Mt) (h : Hp), (0 ≤ i ∧ i ≤ M 1 1 ∧ nn = fgN (M 1) a i.toNat ∧ N = sM (oM M 0 0 0) 1 (fgR (M 1) a i)) → (M 1 1 - i).toNat < m21 → Tw G x N h0 h → J X h 21 [(0, .ref x), (1, vI a), (2, vI nn), (3, vI i)] [] 0 0 := by
      intro m21
      induction m21 with
      | zero => intro i nn N h hI hm21 hT; exact absurd hm21 (Nat.not_lt_zero _)
      | succ m21 ih21 =>
        intro i nn N h hI hm21 hT
        obtain ⟨hI0, hI1, hI2, hI3⟩ := hI
        subst hI3
        have hnr := fgN_rg (M 1) a i.toNat
        have e1 : fgR (M 1) a i 1 = M 1 1 := if_neg (by omega)
        have ef : fgR (M 1) a i (525 + i) = flg (M 1) i := if_neg (by omega)
        refine j_iload_n F rfl dX3_forget_21 ?_
        refine j_aload_n F rfl dX3_forget_22 ?_
        refine t_get F hT 1 (by decide) rfl q1487 dX3_forget_23 ?_
        refine j_iconst F dX3_forget_26 ?_
        refine t_ialdw F hT 1 tm_1 (M 1 1) e1 (by omega) dX3_forget_27 ?_
        refine j_icmp_ge F 82 (by decide) (by omega) (by omega) dX3_forget_28 (fun c28 => ?_) (fun c28 => ?_)
        · skip
          refine j_iload_n F rfl dX3_forget_82 ?_
          exact j_iret F E (Nat.zero_le _) (Nat.zero_le _) dX3_forget_83 (ti_post hT ⟨⟨rfl, rfl, rfl, rfl, rfl, rfl⟩, fun q => absurd (by split at hv9 <;> omega) q, fun _ => ⟨by rw [hI2, show M 1 1 = i by omega], by rw [show M 1 1 = i by omega]; rfl⟩⟩)
        · skip
          have hcl := hR.cl hI0 (by omega)
          have es : fgR (M 1) a i (125 + i) = siz (M 1) i := if_neg (by omega)
          refine j_aload_n F rfl dX3_forget_31 ?_
          refine j_iload_n F rfl dX3_forget_32 ?_
          refine t_callI F hT (ct_X3_isLearnt l G KS x _ (c := i) (by omega) (by rw [sM_s, ef]; omega)) (by decide) (by decide) (lw_V q1633 q1635 qs55 q110 q1636) pd_X3_isLearnt rfl (Nat.le_of_ble_eq_true rfl) (Nat.le_refl _) (Nat.le_refl _) dX3_forget_33 (fun v33 M' h hv33 hT => ?_)
          obtain ⟨hv33, rfl⟩ := hv33
          have e33 : v33 = if flg (M 1) i = 1 ∨ flg (M 1) i = 3 then 1 else 0 := by rw [← ef]; exact hv33
          have z33 := z01 e33
          refine j_if_eq F 76 (by decide) (by omega) dX3_forget_36 (fun c36 => ?_) (fun c36 => ?_)
          · skip
            have hno : ¬ (flg (M 1) i = 1 ∧ a < siz (M 1) i) := by split at e33 <;> omega
            refine j_iinc F rfl (by decide) dX3_forget_76 ?_
            refine j_goto F 21 (by decide) dX3_forget_79 ?_
            refine j_lv (lv' := [(0, .ref x), (1, vI a), (2, vI nn), (3, vI (i + 1))]) ⟨rfl, rfl, rfl, rfl, trivial⟩ ?_
            exact ih21 (i + 1) nn _ _ ⟨by omega, by omega, by rw [fgN_s hI0, if_neg hno, hI2]; omega, by rw [fgR_f hno]⟩ (by omega) hT
          · skip
            refine j_aload_n F rfl dX3_forget_39 ?_
            refine j_iload_n F rfl dX3_forget_40 ?_
            refine t_callI F hT (ct_X3_isGone l G KS x _ (c := i) (by omega) (by rw [sM_s, ef]; omega)) (by decide) (by decide) (lw_V q1637 q1639 qs56 q110 q1640) pd_X3_isGone rfl (Nat.le_of_ble_eq_true rfl) (Nat.le_refl _) (Nat.le_refl _) dX3_forget_41 (fun v41 M' h hv41 hT => ?_)
            obtain ⟨hv41, rfl⟩ := hv41
            have e41 : v41 = if 2 ≤ flg (M 1) i then 1 else 0 := by rw [← ef]; exact hv41
            have z41 := z01 e41
            refine j_if_ne F 76 (by decide) (by omega) dX3_forget_44 (fun c44 => ?_) (fun c44 => ?_)
            · skip
              have hno : ¬ (flg (M 1) i = 1 ∧ a < siz (M 1) i) := by split at e41 <;> omega
              refine j_iinc F rfl (by decide) dX3_forget_76 ?_
              refine j_goto F 21 (by decide) dX3_forget_79 ?_
              refine j_lv (lv' := [(0, .ref x), (1, vI a), (2, vI nn), (3, vI (i + 1))]) ⟨rfl, rfl, rfl, rfl, trivial⟩ ?_
              exact ih21 (i + 1) nn _ _ ⟨by omega, by omega, by rw [fgN_s hI0, if_neg hno, hI2]; omega, by rw [fgR_f hno]⟩ (by omega) hT
            · skip
              refine j_aload_n F rfl dX3_forget_47 ?_
              refine j_iload_n F rfl dX3_forget_48 ?_
              refine t_callI F hT (ct_X3_sizeOf l G KS x _ (c := i) (by omega)) (by decide) (by decide) (lw_V q1641 q1643 qs57 q110 q1644) pd_X3_sizeOf rfl (Nat.le_of_ble_eq_true rfl) (Nat.le_refl _) (Nat.le_refl _) dX3_forget_49 (fun v49 M' h hv49 hT => ?_)
              obtain ⟨hv49, rfl⟩ := hv49
              have e49 : v49 = siz (M 1) i := by rw [← es]; exact hv49
              subst e49
              refine j_iload_n F rfl dX3_forget_52 ?_
              refine j_icmp_gt F 59 (by decide) (by omega) (by omega) dX3_forget_53 (fun c53 => ?_) (fun c53 => ?_)
              · skip
                have hyes : flg (M 1) i = 1 ∧ a < siz (M 1) i := ⟨by split at e33 <;> split at e41 <;> omega, by omega⟩
                refine j_aload_n F rfl dX3_forget_59 ?_
                refine t_get F hT 1 (by decide) rfl q1487 dX3_forget_60 ?_
                refine j_sipush F (by decide) dX3_forget_63 ?_
                refine j_iload_n F rfl dX3_forget_66 ?_
                refine j_iadd F dX3_forget_67 ?_
                refine j_dup2 F rfl rfl dX3_forget_68 ?_
                refine t_ialdw F hT 1 tm_1 (flg (M 1) i) ef (by omega) dX3_forget_69 ?_
                refine j_iconst F dX3_forget_70 ?_
                refine j_ior F 3 (by rw [hyes.1]; decide) dX3_forget_71 ?_
                refine t_iast F hT 1 tm_1 rfl (by omega) dX3_forget_72 (fun h hT => ?_)
                refine j_iinc F rfl (by decide) dX3_forget_73 ?_
                refine j_iinc F rfl (by decide) dX3_forget_76 ?_
                refine j_goto F 21 (by decide) dX3_forget_79 ?_
                refine j_lv (lv' := [(0, .ref x), (1, vI a), (2, vI (nn + 1)), (3, vI (i + 1))]) ⟨rfl, rfl, rfl, rfl, trivial⟩ ?_
                exact ih21 (i + 1) (nn + 1) _ _ ⟨by omega, by omega, by rw [fgN_s hI0, if_pos hyes, hI2], by rw [oM_sM, fgR_t hI0 hyes]⟩ (by omega) hT
              · skip
                have hno : ¬ (flg (M 1) i = 1 ∧ a < siz (M 1) i) := by omega
                refine j_goto F 76 (by decide) dX3_forget_56 ?_
                refine j_iinc F rfl (by decide) dX3_forget_76 ?_
                refine j_goto F 21 (by decide) dX3_forget_79 ?_
                refine j_lv (lv' := [(0, .ref x), (1, vI a), (2, vI nn), (3, vI (i + 1))]) ⟨rfl, rfl, rfl, rfl, trivial⟩ ?_
                exact ih21 (i + 1) nn _ _ ⟨by omega, by omega, by rw [fgN_s hI0, if_neg hno, hI2]; omega, by rw [fgR_f hno]⟩ (by omega) hT
    refine j_lv (lv' := [(0, .ref x), (1, vI a), (2, vI 0), (3, vI 0)]) ⟨rfl, rfl, rfl, rfl, trivial⟩ ?_
    exact L21 _ 0 0 _ _ ⟨by omega, by omega, rfl, by rw [show fgR (M 1) a 0 = M 1 from funext fun j => if_neg (by omega)]; exact (sM_self _ 1).symm⟩ (Nat.lt_succ_self _) hT
  · skip
    refine j_iconst F dX3_forget_15 ?_
    exact j_iret F E (Nat.zero_le _) (Nat.zero_le _) dX3_forget_16 (ti_post hT ⟨⟨rfl, rfl, rfl, rfl, rfl, rfl⟩, fun _ => ⟨rfl, rfl⟩, fun q => absurd q (by split at hv9 <;> omega)⟩)
