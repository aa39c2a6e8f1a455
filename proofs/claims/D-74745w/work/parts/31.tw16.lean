theorem nuB_hr (M : Mt) : nuB (hrM M) = nuB M := sk_sk _ _ _
theorem nuE_hr (M : Mt) : nuE (hrM M) = nuE M := by
  show dg (M 21) (M 23 0) (nuB (hrM M)) = _
  rw [nuB_hr]; rfl
theorem nuV_hr (M : Mt) : nuV (hrM M) = nuV M := by
  show nvF (M 21) (nuB (hrM M)) (nuE (hrM M) - nuB (hrM M)).toNat = _
  rw [nuB_hr, nuE_hr]; rfl
theorem nuM_hr (M : Mt) : nuM (hrM M) = nuM M := by
  unfold nuM
  rw [nuB_hr, nuE_hr]
  unfold hrM
  rw [oM_oM]
theorem nu_x (M : Mt) : xsm M (nuM M) := by
  have h : xsm M (oM M 24 0 (nuE M)) := fun q q1 q2 => oM_n _ _ _ q1
  unfold nuM
  split
  · exact h
  · exact xsm_fl h _ _
theorem nu_24 (M : Mt) : nuM M 24 0 = nuE M := by
  unfold nuM
  split
  · rfl
  · exact fl_24 _ _ _
theorem TX.nu {M : Mt} (h : TX M) (hp : M 24 0 ≤ 500) : TX (nuM M) ∧ nuE M ≤ 500 := by
  have h' := h
  obtain ⟨h1, h2, h3, h4, h5, h6⟩ := h
  have hB : 0 ≤ nuB M ∧ nuB M ≤ 500 := ⟨Int.le_trans h4.1 (sk_rg _ _ _).1, sk_le (by omega) hp⟩
  have hE : 0 ≤ nuE M ∧ nuE M ≤ 500 := ⟨Int.le_trans hB.1 (dg_rg _ _ _).1, dg_le (by omega) (by omega)⟩
  refine ⟨?_, hE.2⟩
  unfold nuM
  split
  · exact h'.at (by omega)
  · exact (h'.at (by omega)).fl (by omega) (by omega)
def gtN (M : Mt) : Mt := if nuM M 25 0 = 0 then (if nuV M < 1 ∨ 30 - M 1 0 < nuV M then flM (nuM M) 2 (nuB M) else oM (nuM M) 1 0 (M 1 0 + nuV M)) else nuM M
def gtM (M : Mt) : Mt := esM (gtN M)
theorem pd_X3_growTold : yX3_growTold.cls = RX3 ∧ yX3_growTold.cls ≠ "java/lang/invoke/MethodHandle" ∧ yX3_growTold.cls ≠ "java/lang/invoke/VarHandle" ∧ (parseMethodDescriptor yX3_growTold.desc).map (fun d => d.parameters.length) = some 0 := by decide +kernel
theorem ct_X3_growTold (l : Launch) (G : Gt) (KS : Ks l G) (x : Nat) (M : Mt) (hV : 0 ≤ M 1 0 ∧ M 1 0 ≤ 30) (hX : TX M) (hp : M 24 0 ≤ 500) : TV l G yX3_growTold cX3_growTold 3 4 x [] M (fun M' => M' = gtM M) := by
  intro h0 h hT
  refine ct_of KS (by decide) (Nat.le_of_ble_eq_true rfl) (fun X F E => ?_)
  refine j_lv (lv' := [(0, .ref x)]) ⟨rfl, trivial⟩ ?_
  have hX' := hX
  obtain ⟨hXn, hEn⟩ := hX.nu hp
  obtain ⟨hX1, hX2, hX3, hX4, hX5, hX6⟩ := hX
  have hB : 0 ≤ nuB M ∧ nuB M ≤ 500 := ⟨Int.le_trans hX4.1 (sk_rg _ _ _).1, sk_le (by omega) hp⟩
  have hnv := nv_rg (M 21) (M 23 0) (nuB M)
  have hnv9 : 0 ≤ nuV M ∧ nuV M ≤ 99 := hnv
  have hf9 := hXn.2.2.2.2.1
  have e1 : nuM M 1 = M 1 := nu_x M 1 (by decide) (by decide)
  refine j_aload_n F rfl dX3_growTold_0 ?_
  refine t_callI F hT (ct_X3_here l G KS x M hX') (by decide) (by decide) (lw_V q1820 q1822 qs88 q110 q1823) pd_X3_here rfl (Nat.le_of_ble_eq_true rfl) (Nat.le_refl _) (Nat.le_refl _) dX3_growTold_1 (fun v1 M1 h hv1 hT => ?_)
  obtain ⟨e9, e2⟩ := hv1
  subst e9 e2
  refine j_pop F rfl dX3_growTold_4 ?_
  refine j_aload_n F rfl dX3_growTold_5 ?_
  refine t_get F hT 24 (by decide) (v := vI (nuB M)) rfl q1510 dX3_growTold_6 ?_
  refine j_istore_n F (by decide) dX3_growTold_9 ?_
  refine j_aload_n F rfl dX3_growTold_10 ?_
  refine t_callI F hT (ct_X3_number l G KS x _ hX'.hr) (by decide) (by decide) (lw_V q1836 q1838 qs92 q110 q1839) pd_X3_number rfl (Nat.le_of_ble_eq_true rfl) (Nat.le_refl _) (Nat.le_refl _) dX3_growTold_11 (fun v11 M11 h hv11 hT => ?_)
  obtain ⟨e11, q11⟩ := hv11
  rw [nuV_hr] at e11
  rw [nuM_hr] at q11
  subst e11 q11
  refine j_istore_n F (by decide) dX3_growTold_14 ?_
  refine j_aload_n F rfl dX3_growTold_15 ?_
  refine t_get F hT 25 (by decide) (v := vI (nuM M 25 0)) rfl q1511 dX3_growTold_16 ?_
  refine j_if_ne F 37 (by decide) (by omega) dX3_growTold_19 (fun c19 => ?_) (fun c19 => ?_)
  · skip
    have hg : gtN M = nuM M := if_neg c19
    refine j_aload_n F rfl dX3_growTold_37 ?_
    refine t_callV F hT (ct_X3_endsStatement l G KS x _ (by first | exact hXn | exact hXn.fl (by omega) (by omega))) (by decide) (by decide) (lw_V q1888 q1890 qs99 q110 q1891) pd_X3_endsStatement rfl (Nat.le_of_ble_eq_true rfl) (Nat.le_refl _) (Nat.le_refl _) dX3_growTold_38 (fun M38 h hv38 hT => ?_)
    rw [← hg] at hv38
    exact j_vret F E (Nat.zero_le _) (Nat.zero_le _) dX3_growTold_41 (tv_post hT hv38)
  · skip
    refine j_aload_n F rfl dX3_growTold_22 ?_
    refine j_iload_n F rfl dX3_growTold_23 ?_
    refine t_callI F hT (ct_X3_grows l G KS x (nuM M) (a := nuV M) (by unfold rg; omega) (by rw [e1]; exact hV)) (by decide) (by decide) (lw_V q1579 q1581 qs50 q110 q1582) pd_X3_grows rfl (Nat.le_of_ble_eq_true rfl) (Nat.le_refl _) (Nat.le_refl _) dX3_growTold_24 (fun v24 M24 h hv24 hT => ?_)
    rw [e1] at hv24
    refine j_iconst F dX3_growTold_27 ?_
    refine j_icmp_ne F 37 (by decide) (by by_cases q : nuV M < 1 ∨ 30 - M 1 0 < nuV M; (have := (hv24.1 q).1; omega); (have := (hv24.2 q).1; omega)) (by omega) dX3_growTold_28 (fun c28 => ?_) (fun c28 => ?_)
    · skip
      have hq : ¬ (nuV M < 1 ∨ 30 - M 1 0 < nuV M) := fun q => c28 (hv24.1 q).1
      obtain ⟨-, e24⟩ := hv24.2 hq
      subst e24
      have hg : gtN M = oM (nuM M) 1 0 (M 1 0 + nuV M) := by unfold gtN; rw [if_pos c19, if_neg hq]
      refine j_aload_n F rfl dX3_growTold_37 ?_
      refine t_callV F hT (ct_X3_endsStatement l G KS x _ (by first | exact hXn | exact hXn.fl (by omega) (by omega))) (by decide) (by decide) (lw_V q1888 q1890 qs99 q110 q1891) pd_X3_endsStatement rfl (Nat.le_of_ble_eq_true rfl) (Nat.le_refl _) (Nat.le_refl _) dX3_growTold_38 (fun M38 h hv38 hT => ?_)
      rw [← hg] at hv38
      exact j_vret F E (Nat.zero_le _) (Nat.zero_le _) dX3_growTold_41 (tv_post hT hv38)
    · skip
      have hq : nuV M < 1 ∨ 30 - M 1 0 < nuV M := Classical.byContradiction (fun q => by have := (hv24.2 q).1; omega)
      obtain ⟨-, e24⟩ := hv24.1 hq
      subst e24
      have hg : gtN M = flM (nuM M) 2 (nuB M) := by unfold gtN; rw [if_pos c19, if_pos hq]
      refine j_aload_n F rfl dX3_growTold_31 ?_
      refine j_iconst F dX3_growTold_32 ?_
      refine j_iload_n F rfl dX3_growTold_33 ?_
      refine t_callV F hT (ct_X3_fails l G KS x _ (k := 2) (w := nuB M) (by unfold rg; omega)) (by decide) (by decide) (lw_V q1832 q1834 qs91 q110 q1835) pd_X3_fails rfl (Nat.le_of_ble_eq_true rfl) (Nat.le_refl _) (Nat.le_refl _) dX3_growTold_34 (fun M34 h hv34 hT => ?_)
      subst hv34
      refine j_aload_n F rfl dX3_growTold_37 ?_
      refine t_callV F hT (ct_X3_endsStatement l G KS x _ (by first | exact hXn | exact hXn.fl (by omega) (by omega))) (by decide) (by decide) (lw_V q1888 q1890 qs99 q110 q1891) pd_X3_endsStatement rfl (Nat.le_of_ble_eq_true rfl) (Nat.le_refl _) (Nat.le_refl _) dX3_growTold_38 (fun M38 h hv38 hT => ?_)
      rw [← hg] at hv38
      exact j_vret F E (Nat.zero_le _) (Nat.zero_le _) dX3_growTold_41 (tv_post hT hv38)
