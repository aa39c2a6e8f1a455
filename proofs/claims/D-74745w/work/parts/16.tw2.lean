theorem pd_X3_truth : yX3_truth.cls = RX3 ∧ yX3_truth.cls ≠ "java/lang/invoke/MethodHandle" ∧ yX3_truth.cls ≠ "java/lang/invoke/VarHandle" ∧ (parseMethodDescriptor yX3_truth.desc).map (fun d => d.parameters.length) = some 1 := by decide +kernel
theorem ct_X3_truth (l : Launch) (G : Gt) (KS : Ks l G) (x : Nat) (M : Mt) {a : Int} (ha : -30 ≤ a ∧ a ≤ 30) : TI l G yX3_truth cX3_truth 2 (some FieldType.int) 1 x [vI a] M (fun v M' => v = trv (M 5) a ∧ M = M') := by
  intro h0 h hT
  refine ct_of KS (by decide) (Nat.le_of_ble_eq_true rfl) (fun X F E => ?_)
  refine j_lv (lv' := [(0, .ref x), (1, vI a)]) ⟨rfl, rfl, trivial⟩ ?_
  refine j_iload_n F rfl dX3_truth_0 ?_
  refine j_if_le F 13 (by decide) (by omega) dX3_truth_1 (fun c1 => ?_) (fun c1 => ?_)
  · skip
    refine j_aload_n F rfl dX3_truth_13 ?_
    refine t_get F hT 5 (by decide) rfl q1491 dX3_truth_14 ?_
    refine j_iload_n F rfl dX3_truth_17 ?_
    refine j_ineg F dX3_truth_18 ?_
    refine t_iald F hT 5 tm_5 (by omega) dX3_truth_19 ?_
    refine j_ineg F dX3_truth_20 ?_
    exact j_iret F E (Nat.zero_le _) (Nat.zero_le _) dX3_truth_21 (ti_post hT ⟨by unfold trv; split <;> omega, rfl⟩)
  · skip
    refine j_aload_n F rfl dX3_truth_4 ?_
    refine t_get F hT 5 (by decide) rfl q1491 dX3_truth_5 ?_
    refine j_iload_n F rfl dX3_truth_8 ?_
    refine t_iald F hT 5 tm_5 (by omega) dX3_truth_9 ?_
    refine j_goto F 21 (by decide) dX3_truth_10 ?_
    exact j_iret F E (Nat.zero_le _) (Nat.zero_le _) dX3_truth_21 (ti_post hT ⟨by unfold trv; split <;> omega, rfl⟩)

theorem pd_X3_open : yX3_open.cls = RX3 ∧ yX3_open.cls ≠ "java/lang/invoke/MethodHandle" ∧ yX3_open.cls ≠ "java/lang/invoke/VarHandle" ∧ (parseMethodDescriptor yX3_open.desc).map (fun d => d.parameters.length) = some 1 := by decide +kernel
theorem ct_X3_open (l : Launch) (G : Gt) (KS : Ks l G) (x : Nat) (M : Mt) {c : Int} (hR : RI (M 1)) (hs : s3 (M 5)) (hc : 0 ≤ c ∧ c < M 1 1) : TI l G yX3_open cX3_open 5 (some FieldType.int) 2 x [vI c] M (fun v M' => v = opn (M 1) (M 5) c ∧ M = M') := by
  intro h0 h hT
  refine ct_of KS (by decide) (Nat.le_of_ble_eq_true rfl) (fun X F E => ?_)
  refine j_lv (lv' := [(0, .ref x), (1, vI c)]) ⟨rfl, rfl, trivial⟩ ?_
  have hm := hR.many
  have hcl := hR.cl hc.1 hc.2
  have hsz : siz (M 1) c = M 1 (125 + c) := rfl
  refine j_iconst F dX3_open_0 ?_
  refine j_istore_n F (by decide) dX3_open_1 ?_
  refine j_iconst F dX3_open_2 ?_
  refine j_istore_n F (by decide) dX3_open_3 ?_
  have L4 : ∀ (m4 : Nat) (i nn : Int) (h : Hp), (0 ≤ i ∧ i ≤ siz (M 1) c ∧ nn = cnt (fun k => trv (M 5) (lit (M 1) c k)) 0 i.toNat ∧ ∀ k : Int, 0 ≤ k → k < i → ¬ 0 < trv (M 5) (lit (M 1) c k)) → (siz (M 1) c - i).toNat < m4 → Tw G x M h0 h → J X h 4 [(0, .ref x), (1, vI c), (2, vI nn), (3, vI i)] [] 0 0 := by
    intro m4
    induction m4 with
    | zero => intro i nn h hI hm4 hT; exact absurd hm4 (Nat.not_lt_zero _)
    | succ m4 ih4 =>
      intro i nn h hI hm4 hT
      obtain ⟨hI1, hI2, hI3, hI4⟩ := hI
      have hnr := cnt_rgi (fun k => trv (M 5) (lit (M 1) c k)) 0 hI1
      refine j_iload_n F rfl dX3_open_4 ?_
      refine j_aload_n F rfl dX3_open_5 ?_
      refine j_iload_n F rfl dX3_open_6 ?_
      refine t_callI F hT (ct_X3_sizeOf l G KS x M (c := c) (by omega)) (by decide) (by decide) (lw_V q1641 q1643 qs57 q110 q1644) pd_X3_sizeOf rfl (Nat.le_of_ble_eq_true rfl) (Nat.le_refl _) (Nat.le_refl _) dX3_open_7 (fun v7 M' h hv7 hT => ?_)
      obtain ⟨hv7, rfl⟩ := hv7
      subst hv7
      refine j_icmp_ge F 52 (by decide) (by omega) (by omega) dX3_open_10 (fun c10 => ?_) (fun c10 => ?_)
      · skip
        refine j_iload_n F rfl dX3_open_52 ?_
        exact j_iret F E (Nat.zero_le _) (Nat.zero_le _) dX3_open_53 (ti_post hT ⟨by rw [opn_n (fun k k0 k1 => hI4 k k0 (by omega)), hI3, show i = siz (M 1) c by omega], rfl⟩)
      · skip
        refine j_aload_n F rfl dX3_open_13 ?_
        refine j_aload_n F rfl dX3_open_14 ?_
        refine j_iload_n F rfl dX3_open_15 ?_
        refine j_iload_n F rfl dX3_open_16 ?_
        refine t_callI F hT (ct_X3_literal l G KS x M (c := c) (k := i) (by omega) (by omega)) (by decide) (by decide) (lw_V q1685 q1687 qs65 q110 q1688) pd_X3_literal rfl (Nat.le_of_ble_eq_true rfl) (Nat.le_refl _) (Nat.le_refl _) dX3_open_17 (fun v17 M' h hv17 hT => ?_)
        obtain ⟨hv17, rfl⟩ := hv17
        have el : v17 = lit (M 1) c i := hv17
        have hlr := (hR.ll hc.1 hc.2 hI1 (by omega)).2
        subst el
        refine t_callI F hT (ct_X3_truth l G KS x M hlr) (by decide) (by decide) (lw_V q1689 q1691 qs66 q110 q1692) pd_X3_truth rfl (Nat.le_of_ble_eq_true rfl) (Nat.le_refl _) (Nat.le_refl _) dX3_open_20 (fun v20 M' h hv20 hT => ?_)
        obtain ⟨hv20, rfl⟩ := hv20
        subst hv20
        have htr := trv_rg hs hlr
        refine j_istore F (by decide) dX3_open_23 ?_
        refine j_iload F rfl dX3_open_25 ?_
        refine j_if_le F 33 (by decide) (by omega) dX3_open_27 (fun c27 => ?_) (fun c27 => ?_)
        · skip
          have c27' : ¬ 0 < trv (M 5) (lit (M 1) c i) := by omega
          refine j_iload_n F rfl dX3_open_33 ?_
          refine j_joinT (x := x) (M := M) (G := G) (h0 := h0) 44 (fun w => nn + w = cnt (fun k => trv (M 5) (lit (M 1) c k)) 0 (i + 1).toNat) (fun w h hw hT => ?_) (fun Kj34 => ?_)
          · skip
            refine j_iadd F dX3_open_44 ?_
            refine j_istore_n F (by decide) dX3_open_45 ?_
            refine j_iinc F rfl (by decide) dX3_open_46 ?_
            refine j_goto F 4 (by decide) dX3_open_49 ?_
            refine j_lv (lv' := [(0, .ref x), (1, vI c), (2, vI (nn + w)), (3, vI (i + 1))]) ⟨rfl, rfl, rfl, rfl, trivial⟩ ?_
            exact ih4 (i + 1) (nn + w) _ ⟨by omega, by omega, hw, fun k k0 k1 => if e : k = i then (by rw [e]; exact c27') else hI4 k k0 (by omega)⟩ (by omega) hT
          · skip
            refine j_iload F rfl dX3_open_34 ?_
            refine j_if_ne F 43 (by decide) (by omega) dX3_open_36 (fun c36 => ?_) (fun c36 => ?_)
            · skip
              refine j_iconst F dX3_open_43 ?_
              exact Kj34 _ _ (by rw [cnt_s hI1]; split <;> omega) hT
            · skip
              refine j_iconst F dX3_open_39 ?_
              refine j_goto F 44 (by decide) dX3_open_40 ?_
              exact Kj34 _ _ (by rw [cnt_s hI1]; split <;> omega) hT
        · skip
          refine j_bipush F (by decide) dX3_open_30 ?_
          exact j_iret F E (Nat.zero_le _) (Nat.zero_le _) dX3_open_32 (ti_post hT ⟨(opn_31 hI1 (by omega) (by omega)).symm, rfl⟩)
  refine j_lv (lv' := [(0, .ref x), (1, vI c), (2, vI 0), (3, vI 0)]) ⟨rfl, rfl, rfl, rfl, trivial⟩ ?_
  exact L4 _ 0 0 _ ⟨by omega, by omega, rfl, fun k k0 k1 => by omega⟩ (Nat.lt_succ_self _) hT

theorem pd_X3_firstOf : yX3_firstOf.cls = RX3 ∧ yX3_firstOf.cls ≠ "java/lang/invoke/MethodHandle" ∧ yX3_firstOf.cls ≠ "java/lang/invoke/VarHandle" ∧ (parseMethodDescriptor yX3_firstOf.desc).map (fun d => d.parameters.length) = some 1 := by decide +kernel
theorem ct_X3_firstOf (l : Launch) (G : Gt) (KS : Ks l G) (x : Nat) (M : Mt) {a : Int} (hR : RI (M 1)) (hs : s3 (M 5)) (ha : 0 ≤ a ∧ a ≤ 30) : TI l G yX3_firstOf cX3_firstOf 3 (some FieldType.int) 3 x [vI a] M (fun v M' => v = fst9 (M 1) (M 5) a ∧ M = M') := by
  intro h0 h hT
  refine ct_of KS (by decide) (Nat.le_of_ble_eq_true rfl) (fun X F E => ?_)
  refine j_lv (lv' := [(0, .ref x), (1, vI a)]) ⟨rfl, rfl, trivial⟩ ?_
  have hm := hR.many
  refine j_iconst F dX3_firstOf_0 ?_
  refine j_istore_n F (by decide) dX3_firstOf_1 ?_
  have L2 : ∀ (m2 : Nat) (i : Int) (h : Hp), (0 ≤ i ∧ i ≤ M 1 1 ∧ ∀ c : Int, 0 ≤ c → c < i → ¬ (¬ 2 ≤ flg (M 1) c ∧ opn (M 1) (M 5) c = a)) → (M 1 1 - i).toNat < m2 → Tw G x M h0 h → J X h 2 [(0, .ref x), (1, vI a), (2, vI i)] [] 0 0 := by
    intro m2
    induction m2 with
    | zero => intro i h hI hm2 hT; exact absurd hm2 (Nat.not_lt_zero _)
    | succ m2 ih2 =>
      intro i h hI hm2 hT
      obtain ⟨hI0, hI1, hI2⟩ := hI
      refine j_iload_n F rfl dX3_firstOf_2 ?_
      refine j_aload_n F rfl dX3_firstOf_3 ?_
      refine t_get F hT 1 (by decide) rfl q1487 dX3_firstOf_4 ?_
      refine j_iconst F dX3_firstOf_7 ?_
      refine t_iald F hT 1 tm_1 (by omega) dX3_firstOf_8 ?_
      refine j_icmp_ge F 37 (by decide) (by omega) (by omega) dX3_firstOf_9 (fun c9 => ?_) (fun c9 => ?_)
      · skip
        refine j_iconst F dX3_firstOf_37 ?_
        exact j_iret F E (Nat.zero_le _) (Nat.zero_le _) dX3_firstOf_38 (ti_post hT ⟨(lst_none (fun c c0 c1 => hI2 c c0 (by omega))).symm, rfl⟩)
      · skip
        have hcl := hR.cl hI0 (by omega)
        have hfl : flg (M 1) i = M 1 (525 + i) := rfl
        refine j_aload_n F rfl dX3_firstOf_12 ?_
        refine j_iload_n F rfl dX3_firstOf_13 ?_
        refine t_callI F hT (ct_X3_isGone l G KS x M (c := i) (by omega) (by omega)) (by decide) (by decide) (lw_V q1637 q1639 qs56 q110 q1640) pd_X3_isGone rfl (Nat.le_of_ble_eq_true rfl) (Nat.le_refl _) (Nat.le_refl _) dX3_firstOf_14 (fun v14 M' h hv14 hT => ?_)
        obtain ⟨hv14, rfl⟩ := hv14
        rw [← hfl] at hv14
        have z14 := z01 hv14
        refine j_if_ne F 31 (by decide) (by omega) dX3_firstOf_17 (fun c17 => ?_) (fun c17 => ?_)
        · skip
          have hno : ¬ (¬ 2 ≤ flg (M 1) i ∧ opn (M 1) (M 5) i = a) := by split at hv14 <;> omega
          refine j_iinc F rfl (by decide) dX3_firstOf_31 ?_
          refine j_goto F 2 (by decide) dX3_firstOf_34 ?_
          refine j_lv (lv' := [(0, .ref x), (1, vI a), (2, vI (i + 1))]) ⟨rfl, rfl, rfl, trivial⟩ ?_
          exact ih2 (i + 1) _ ⟨by omega, by omega, fun c c0 c1 => if e : c = i then (by rw [e]; exact hno) else hI2 c c0 (by omega)⟩ (by omega) hT
        · skip
          refine j_aload_n F rfl dX3_firstOf_20 ?_
          refine j_iload_n F rfl dX3_firstOf_21 ?_
          refine t_callI F hT (ct_X3_open l G KS x M hR hs (c := i) (by omega)) (by decide) (by decide) (lw_V q1681 q1683 qs64 q110 q1684) pd_X3_open rfl (Nat.le_of_ble_eq_true rfl) (Nat.le_refl _) (Nat.le_refl _) dX3_firstOf_22 (fun v22 M' h hv22 hT => ?_)
          obtain ⟨hv22, rfl⟩ := hv22
          subst hv22
          have hop := opn_rg (s := M 5) (R := M 1) (c := i) (by omega)
          refine j_iload_n F rfl dX3_firstOf_25 ?_
          refine j_icmp_ne F 31 (by decide) (by omega) (by omega) dX3_firstOf_26 (fun c26 => ?_) (fun c26 => ?_)
          · skip
            have hno : ¬ (¬ 2 ≤ flg (M 1) i ∧ opn (M 1) (M 5) i = a) := by omega
            refine j_iinc F rfl (by decide) dX3_firstOf_31 ?_
            refine j_goto F 2 (by decide) dX3_firstOf_34 ?_
            refine j_lv (lv' := [(0, .ref x), (1, vI a), (2, vI (i + 1))]) ⟨rfl, rfl, rfl, trivial⟩ ?_
            exact ih2 (i + 1) _ ⟨by omega, by omega, fun c c0 c1 => if e : c = i then (by rw [e]; exact hno) else hI2 c c0 (by omega)⟩ (by omega) hT
          · skip
            refine j_iload_n F rfl dX3_firstOf_29 ?_
            exact j_iret F E (Nat.zero_le _) (Nat.zero_le _) dX3_firstOf_30 (ti_post hT ⟨(lst_at hI0 (by omega) ⟨by split at hv14 <;> omega, by omega⟩ hI2).symm, rfl⟩)
  refine j_lv (lv' := [(0, .ref x), (1, vI a), (2, vI 0)]) ⟨rfl, rfl, rfl, trivial⟩ ?_
  exact L2 _ 0 _ ⟨by omega, by omega, fun c c0 c1 => by omega⟩ (Nat.lt_succ_self _) hT

theorem pd_X3_openOne : yX3_openOne.cls = RX3 ∧ yX3_openOne.cls ≠ "java/lang/invoke/MethodHandle" ∧ yX3_openOne.cls ≠ "java/lang/invoke/VarHandle" ∧ (parseMethodDescriptor yX3_openOne.desc).map (fun d => d.parameters.length) = some 1 := by decide +kernel
theorem ct_X3_openOne (l : Launch) (G : Gt) (KS : Ks l G) (x : Nat) (M : Mt) {c : Int} (hR : RI (M 1)) (hs : s3 (M 5)) (hc : 0 ≤ c ∧ c < M 1 1) : TI l G yX3_openOne cX3_openOne 3 (some FieldType.int) 2 x [vI c] M (fun v M' => v = opo (M 1) (M 5) c ∧ M = M') := by
  intro h0 h hT
  refine ct_of KS (by decide) (Nat.le_of_ble_eq_true rfl) (fun X F E => ?_)
  refine j_lv (lv' := [(0, .ref x), (1, vI c)]) ⟨rfl, rfl, trivial⟩ ?_
  have hm := hR.many
  have hcl := hR.cl hc.1 hc.2
  have hsz : siz (M 1) c = M 1 (125 + c) := rfl
  refine j_iconst F dX3_openOne_0 ?_
  refine j_istore_n F (by decide) dX3_openOne_1 ?_
  have L2 : ∀ (m2 : Nat) (i : Int) (h : Hp), (0 ≤ i ∧ i ≤ siz (M 1) c ∧ ∀ k : Int, 0 ≤ k → k < i → ¬ trv (M 5) (lit (M 1) c k) = 0) → (siz (M 1) c - i).toNat < m2 → Tw G x M h0 h → J X h 2 [(0, .ref x), (1, vI c), (2, vI i)] [] 0 0 := by
    intro m2
    induction m2 with
    | zero => intro i h hI hm2 hT; exact absurd hm2 (Nat.not_lt_zero _)
    | succ m2 ih2 =>
      intro i h hI hm2 hT
      obtain ⟨hI0, hI1, hI2⟩ := hI
      refine j_iload_n F rfl dX3_openOne_2 ?_
      refine j_aload_n F rfl dX3_openOne_3 ?_
      refine j_iload_n F rfl dX3_openOne_4 ?_
      refine t_callI F hT (ct_X3_sizeOf l G KS x M (c := c) (by omega)) (by decide) (by decide) (lw_V q1641 q1643 qs57 q110 q1644) pd_X3_sizeOf rfl (Nat.le_of_ble_eq_true rfl) (Nat.le_refl _) (Nat.le_refl _) dX3_openOne_5 (fun v5 M' h hv5 hT => ?_)
      obtain ⟨hv5, rfl⟩ := hv5
      subst hv5
      refine j_icmp_ge F 37 (by decide) (by omega) (by omega) dX3_openOne_8 (fun c8 => ?_) (fun c8 => ?_)
      · skip
        refine j_iconst F dX3_openOne_37 ?_
        exact j_iret F E (Nat.zero_le _) (Nat.zero_le _) dX3_openOne_38 (ti_post hT ⟨(cif_t (lst_none (fun k k0 k1 => hI2 k k0 (by omega)))).symm, rfl⟩)
      · skip
        refine j_aload_n F rfl dX3_openOne_11 ?_
        refine j_aload_n F rfl dX3_openOne_12 ?_
        refine j_iload_n F rfl dX3_openOne_13 ?_
        refine j_iload_n F rfl dX3_openOne_14 ?_
        refine t_callI F hT (ct_X3_literal l G KS x M (c := c) (k := i) (by omega) (by omega)) (by decide) (by decide) (lw_V q1685 q1687 qs65 q110 q1688) pd_X3_literal rfl (Nat.le_of_ble_eq_true rfl) (Nat.le_refl _) (Nat.le_refl _) dX3_openOne_15 (fun v15 M' h hv15 hT => ?_)
        obtain ⟨hv15, rfl⟩ := hv15
        have el : v15 = lit (M 1) c i := hv15
        have hlr := (hR.ll hc.1 hc.2 hI0 (by omega)).2
        subst el
        refine t_callI F hT (ct_X3_truth l G KS x M hlr) (by decide) (by decide) (lw_V q1689 q1691 qs66 q110 q1692) pd_X3_truth rfl (Nat.le_of_ble_eq_true rfl) (Nat.le_refl _) (Nat.le_refl _) dX3_openOne_18 (fun v18 M' h hv18 hT => ?_)
        obtain ⟨hv18, rfl⟩ := hv18
        subst hv18
        have htr := trv_rg hs hlr
        refine j_if_ne F 31 (by decide) (by omega) dX3_openOne_21 (fun c21 => ?_) (fun c21 => ?_)
        · skip
          refine j_iinc F rfl (by decide) dX3_openOne_31 ?_
          refine j_goto F 2 (by decide) dX3_openOne_34 ?_
          refine j_lv (lv' := [(0, .ref x), (1, vI c), (2, vI (i + 1))]) ⟨rfl, rfl, rfl, trivial⟩ ?_
          exact ih2 (i + 1) _ ⟨by omega, by omega, fun k c0 c1 => if e : k = i then (by rw [e]; exact c21) else hI2 k c0 (by omega)⟩ (by omega) hT
        · skip
          refine j_aload_n F rfl dX3_openOne_24 ?_
          refine j_iload_n F rfl dX3_openOne_25 ?_
          refine j_iload_n F rfl dX3_openOne_26 ?_
          refine t_callI F hT (ct_X3_literal l G KS x M (c := c) (k := i) (by omega) (by omega)) (by decide) (by decide) (lw_V q1685 q1687 qs65 q110 q1688) pd_X3_literal rfl (Nat.le_of_ble_eq_true rfl) (Nat.le_refl _) (Nat.le_refl _) dX3_openOne_27 (fun v27 M' h hv27 hT => ?_)
          obtain ⟨hv27, rfl⟩ := hv27
          exact j_iret F E (Nat.zero_le _) (Nat.zero_le _) dX3_openOne_30 (ti_post hT ⟨by
              have e := lst_at (p := fun k => trv (M 5) (lit (M 1) c k) = 0) (n := siz (M 1) c) hI0 (by omega) (by omega) hI2
              rw [hv27, opo, cif_f (by rw [e]; omega), e]
              rfl, rfl⟩)
  refine j_lv (lv' := [(0, .ref x), (1, vI c), (2, vI 0)]) ⟨rfl, rfl, rfl, trivial⟩ ?_
  exact L2 _ 0 _ ⟨by omega, by omega, fun c c0 c1 => by omega⟩ (Nat.lt_succ_self _) hT
