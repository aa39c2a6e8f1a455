/-! the trail's states -/
def empM (M : Mt) : Mt := sM (oM (oM M 10 0 0) 11 0 0) 5 (fun v => if 0 ≤ v ∧ v < 31 then 0 else M 5 v)
def cmM (M : Mt) (l w : Int) : Mt := oM (oM (oM (oM (oM (oM M 5 (iab l) (if 0 < l then 1 else -1)) 6 (iab l) (M 11 0)) 7 (iab l) w) 8 (iab l) (M 10 0)) 9 (M 10 0) l) 10 0 (M 10 0 + 1)
def popM (M : Mt) : Mt := oM (oM (oM M 10 0 (M 10 0 - 1)) 1 (32 + iab (M 9 (M 10 0 - 1))) (if 0 < M 9 (M 10 0 - 1) then 1 else 0)) 5 (iab (M 9 (M 10 0 - 1))) 0
def lvF (b : Int) : Nat → Mt → Mt
  | 0, M => M
  | n + 1, M => if 0 < M 10 0 ∧ b < M 6 (iab (M 9 (M 10 0 - 1))) then lvF b n (popM M) else M
def lvM (M : Mt) (b : Int) : Mt := oM (lvF b (M 10 0).toNat M) 11 0 (if b < 0 then 0 else b)
theorem iab_rg {a : Int} (h : -30 ≤ a ∧ a ≤ 30) : 0 ≤ iab a ∧ iab a ≤ 30 := by unfold iab; split <;> omega
theorem iab_lok {V a : Int} (h : lok V a) : 1 ≤ iab a ∧ iab a ≤ V := by unfold lok at h; unfold iab; split <;> omega
theorem lvF_out {b : Int} {M : Mt} (h : ¬ (0 < M 10 0 ∧ b < M 6 (iab (M 9 (M 10 0 - 1))))) (n : Nat) : lvF b n M = M := by
  cases n with
  | zero => rfl
  | succ n => unfold lvF; rw [if_neg h]
theorem lvF_in {b : Int} {M : Mt} (h : 0 < M 10 0 ∧ b < M 6 (iab (M 9 (M 10 0 - 1)))) : lvF b (M 10 0).toNat M = lvF b (popM M 10 0).toNat (popM M) := by
  have e1 : (M 10 0).toNat = (M 10 0 - 1).toNat + 1 := by omega
  have e2 : popM M 10 0 = M 10 0 - 1 := rfl
  rw [e1, e2, lvF, if_pos h]
theorem pd_X3_empties : yX3_empties.cls = RX3 ∧ yX3_empties.cls ≠ "java/lang/invoke/MethodHandle" ∧ yX3_empties.cls ≠ "java/lang/invoke/VarHandle" ∧ (parseMethodDescriptor yX3_empties.desc).map (fun d => d.parameters.length) = some 0 := by decide +kernel
theorem ct_X3_empties (l : Launch) (G : Gt) (KS : Ks l G) (x : Nat) (M : Mt) : TV l G yX3_empties cX3_empties 2 1 x [] M (fun M' => M' = empM M) := by
  intro h0 h hT
  refine ct_of KS (by decide) (Nat.le_of_ble_eq_true rfl) (fun X F E => ?_)
  refine j_lv (lv' := [(0, .ref x)]) ⟨rfl, trivial⟩ ?_
  refine j_aload_n F rfl dX3_empties_0 ?_
  refine j_iconst F dX3_empties_1 ?_
  refine t_put F hT 10 (by decide) rfl rfl rfl (by decide) q1496 dX3_empties_2 (fun h hT => ?_)
  refine j_aload_n F rfl dX3_empties_5 ?_
  refine j_iconst F dX3_empties_6 ?_
  refine t_put F hT 11 (by decide) rfl rfl rfl (by decide) q1497 dX3_empties_7 (fun h hT => ?_)
  refine j_iconst F dX3_empties_10 ?_
  refine j_istore_n F (by decide) dX3_empties_11 ?_
  have L12 : ∀ (m12 : Nat) (i : Int) (N : Mt) (h : Hp), (0 ≤ i ∧ i ≤ 31 ∧ N = sM (oM (oM M 10 0 0) 11 0 0) 5 (fun v => if 0 ≤ v ∧ v < i then 0 else M 5 v)) → (31 - i).toNat < m12 → Tw G x N h0 h → J X h 12 [(0, .ref x), (1, vI i)] [] 0 0 := by
    intro m12
    induction m12 with
    | zero => intro i N h hI hm12 hT; exact absurd hm12 (Nat.not_lt_zero _)
    | succ m12 ih12 =>
      intro i N h hI hm12 hT
      obtain ⟨hI0, hI1, hI2⟩ := hI
      refine j_iload_n F rfl dX3_empties_12 ?_
      refine j_bipush F (by decide) dX3_empties_13 ?_
      refine j_icmp_gt F 31 (by decide) (by omega) (by omega) dX3_empties_15 (fun c15 => ?_) (fun c15 => ?_)
      · skip
        exact j_vret F E (Nat.zero_le _) (Nat.zero_le _) dX3_empties_31 (tv_post hT (by rw [hI2]; unfold empM; congr 1; funext v; rw [show i = 31 by omega]))
      · skip
        refine j_aload_n F rfl dX3_empties_18 ?_
        refine t_get F hT 5 (by decide) rfl q1491 dX3_empties_19 ?_
        refine j_iload_n F rfl dX3_empties_22 ?_
        refine j_iconst F dX3_empties_23 ?_
        refine t_iast F hT 5 tm_5 rfl (by omega) dX3_empties_24 (fun h hT => ?_)
        refine j_iinc F rfl (by decide) dX3_empties_25 ?_
        refine j_goto F 12 (by decide) dX3_empties_28 ?_
        refine j_lv (lv' := [(0, .ref x), (1, vI (i + 1))]) ⟨rfl, rfl, trivial⟩ ?_
        exact ih12 (i + 1) _ _ ⟨by omega, by omega, by rw [hI2, oM_sM]; congr 1; funext v; unfold oI; by_cases e : v = i <;> simp only [e, if_true, if_false] <;> (repeat' split) <;> omega⟩ (by omega) hT
  refine j_lv (lv' := [(0, .ref x), (1, vI 0)]) ⟨rfl, rfl, trivial⟩ ?_
  exact L12 _ 0 _ _ ⟨by omega, by omega, by rw [show (fun v : Int => if 0 ≤ v ∧ v < 0 then 0 else M 5 v) = M 5 from funext fun v => if_neg (by omega)]; exact (sM_self _ 5).symm⟩ (Nat.lt_succ_self _) hT

theorem pd_X3_comes : yX3_comes.cls = RX3 ∧ yX3_comes.cls ≠ "java/lang/invoke/MethodHandle" ∧ yX3_comes.cls ≠ "java/lang/invoke/VarHandle" ∧ (parseMethodDescriptor yX3_comes.desc).map (fun d => d.parameters.length) = some 2 := by decide +kernel
theorem ct_X3_comes (l : Launch) (G : Gt) (KS : Ks l G) (x : Nat) (M : Mt) {a w : Int} (ha : lok 30 a) (ht : 0 ≤ M 10 0 ∧ M 10 0 < 30) : TV l G yX3_comes cX3_comes 3 2 x [vI a, vI w] M (fun M' => M' = cmM M a w) := by
  intro h0 h hT
  refine ct_of KS (by decide) (Nat.le_of_ble_eq_true rfl) (fun X F E => ?_)
  refine j_lv (lv' := [(0, .ref x), (1, vI a), (2, vI w)]) ⟨rfl, rfl, rfl, trivial⟩ ?_
  have har := iab_lok ha
  have haq : rg a := by unfold lok at ha; unfold rg; omega
  unfold lok at ha
  refine j_aload_n F rfl dX3_comes_0 ?_
  refine t_get F hT 5 (by decide) rfl q1491 dX3_comes_1 ?_
  refine j_iload_n F rfl dX3_comes_4 ?_
  refine s_callI F (ct_X3_size l G KS haq) (by decide) (by decide) (lw_S q1591 q1592 q110 q1593) pd_X3_size rfl (Nat.le_of_ble_eq_true rfl) (Nat.le_refl _) (Nat.le_refl _) dX3_comes_5 (fun v5 hv5 => ?_)
  subst hv5
  refine j_joinT (x := x) (M := M) (G := G) (h0 := h0) 17 (fun w => w = if 0 < a then 1 else -1) (fun w h hw hT => ?_) (fun Kj8 => ?_)
  · skip
    subst hw
    refine t_iast F hT 5 tm_5 rfl (by omega) dX3_comes_17 (fun h hT => ?_)
    refine j_aload_n F rfl dX3_comes_18 ?_
    refine t_get F hT 6 (by decide) rfl q1492 dX3_comes_19 ?_
    refine j_iload_n F rfl dX3_comes_22 ?_
    refine s_callI F (ct_X3_size l G KS haq) (by decide) (by decide) (lw_S q1591 q1592 q110 q1593) pd_X3_size rfl (Nat.le_of_ble_eq_true rfl) (Nat.le_refl _) (Nat.le_refl _) dX3_comes_23 (fun v23 hv23 => ?_)
    subst hv23
    refine j_aload_n F rfl dX3_comes_26 ?_
    refine t_get F hT 11 (by decide) rfl q1497 dX3_comes_27 ?_
    refine t_iast F hT 6 tm_6 rfl (by omega) dX3_comes_30 (fun h hT => ?_)
    refine j_aload_n F rfl dX3_comes_31 ?_
    refine t_get F hT 7 (by decide) rfl q1493 dX3_comes_32 ?_
    refine j_iload_n F rfl dX3_comes_35 ?_
    refine s_callI F (ct_X3_size l G KS haq) (by decide) (by decide) (lw_S q1591 q1592 q110 q1593) pd_X3_size rfl (Nat.le_of_ble_eq_true rfl) (Nat.le_refl _) (Nat.le_refl _) dX3_comes_36 (fun v36 hv36 => ?_)
    subst hv36
    refine j_iload_n F rfl dX3_comes_39 ?_
    refine t_iast F hT 7 tm_7 rfl (by omega) dX3_comes_40 (fun h hT => ?_)
    refine j_aload_n F rfl dX3_comes_41 ?_
    refine t_get F hT 8 (by decide) rfl q1494 dX3_comes_42 ?_
    refine j_iload_n F rfl dX3_comes_45 ?_
    refine s_callI F (ct_X3_size l G KS haq) (by decide) (by decide) (lw_S q1591 q1592 q110 q1593) pd_X3_size rfl (Nat.le_of_ble_eq_true rfl) (Nat.le_refl _) (Nat.le_refl _) dX3_comes_46 (fun v46 hv46 => ?_)
    subst hv46
    refine j_aload_n F rfl dX3_comes_49 ?_
    refine t_get F hT 10 (by decide) rfl q1496 dX3_comes_50 ?_
    refine t_iast F hT 8 tm_8 rfl (by omega) dX3_comes_53 (fun h hT => ?_)
    refine j_aload_n F rfl dX3_comes_54 ?_
    refine t_get F hT 9 (by decide) rfl q1495 dX3_comes_55 ?_
    refine j_aload_n F rfl dX3_comes_58 ?_
    refine t_get F hT 10 (by decide) rfl q1496 dX3_comes_59 ?_
    refine j_iload_n F rfl dX3_comes_62 ?_
    refine t_iast F hT 9 tm_9 rfl (by show 0 ≤ M 10 0 ∧ M 10 0 < _; omega) dX3_comes_63 (fun h hT => ?_)
    refine j_aload_n F rfl dX3_comes_64 ?_
    refine j_dup F rfl dX3_comes_65 ?_
    refine t_get F hT 10 (by decide) rfl q1496 dX3_comes_66 ?_
    refine j_iconst F dX3_comes_69 ?_
    refine j_iadd F dX3_comes_70 ?_
    refine t_put F hT 10 (by decide) rfl rfl rfl (by decide) q1496 dX3_comes_71 (fun h hT => ?_)
    exact j_vret F E (Nat.zero_le _) (Nat.zero_le _) dX3_comes_74 (tv_post hT rfl)
  · skip
    refine j_iload_n F rfl dX3_comes_8 ?_
    refine j_if_le F 16 (by decide) (by omega) dX3_comes_9 (fun c9 => ?_) (fun c9 => ?_)
    · skip
      refine j_iconst F dX3_comes_16 ?_
      exact Kj8 _ _ (by split <;> omega) hT
    · skip
      refine j_iconst F dX3_comes_12 ?_
      refine j_goto F 17 (by decide) dX3_comes_13 ?_
      exact Kj8 _ _ (by split <;> omega) hT

theorem pd_X3_leaves : yX3_leaves.cls = RX3 ∧ yX3_leaves.cls ≠ "java/lang/invoke/MethodHandle" ∧ yX3_leaves.cls ≠ "java/lang/invoke/VarHandle" ∧ (parseMethodDescriptor yX3_leaves.desc).map (fun d => d.parameters.length) = some 1 := by decide +kernel
theorem ct_X3_leaves (l : Launch) (G : Gt) (KS : Ks l G) (x : Nat) (M : Mt) {b : Int} (hb : rg b) (ht : 0 ≤ M 10 0 ∧ M 10 0 ≤ 30) (htr : ∀ p : Int, 0 ≤ p → p < M 10 0 → -30 ≤ M 9 p ∧ M 9 p ≤ 30) (hlv : ∀ v : Int, 0 ≤ v → v ≤ 30 → rg (M 6 v)) : TV l G yX3_leaves cX3_leaves 3 2 x [vI b] M (fun M' => M' = lvM M b) := by
  intro h0 h hT
  refine ct_of KS (by decide) (Nat.le_of_ble_eq_true rfl) (fun X F E => ?_)
  refine j_lv (lv' := [(0, .ref x), (1, vI b)]) ⟨rfl, rfl, trivial⟩ ?_
  unfold rg at hb
  have L0 : ∀ (m0 : Nat)  (N : Mt) (h : Hp), (lvF b (N 10 0).toNat N = lvF b (M 10 0).toNat M ∧ (0 ≤ N 10 0 ∧ N 10 0 ≤ M 10 0) ∧ N 9 = M 9 ∧ N 6 = M 6) → (N 10 0).toNat < m0 → Tw G x N h0 h → J X h 0 [(0, .ref x), (1, vI b)] [] 0 0 := by
    intro m0
    induction m0 with
    | zero => intro  N h hI hm0 hT; exact absurd hm0 (Nat.not_lt_zero _)
    | succ m0 ih0 =>
      intro  N h hI hm0 hT
      obtain ⟨hI1, hI2, hI3, hI4⟩ := hI
      refine j_aload_n F rfl dX3_leaves_0 ?_
      refine t_get F hT 10 (by decide) rfl q1496 dX3_leaves_1 ?_
      refine j_if_le F 84 (by decide) (by omega) dX3_leaves_4 (fun c4 => ?_) (fun c4 => ?_)
      · skip
        have hex : ¬ (0 < N 10 0 ∧ b < N 6 (iab (N 9 (N 10 0 - 1)))) := by omega
        refine j_aload_n F rfl dX3_leaves_84 ?_
        refine j_joinT (x := x) (M := N) (G := G) (h0 := h0) 94 (fun w => w = if b < 0 then 0 else b) (fun w h hw hT => ?_) (fun Kj85 => ?_)
        · skip
          refine t_put F hT 11 (by decide) rfl rfl rfl (by decide) q1497 dX3_leaves_94 (fun h hT => ?_)
          exact j_vret F E (Nat.zero_le _) (Nat.zero_le _) dX3_leaves_97 (tv_post hT (by subst hw; unfold lvM; rw [← hI1, lvF_out hex]))
        · skip
          refine j_iload_n F rfl dX3_leaves_85 ?_
          refine j_if_ge F 93 (by decide) (by omega) dX3_leaves_86 (fun c86 => ?_) (fun c86 => ?_)
          · skip
            refine j_iload_n F rfl dX3_leaves_93 ?_
            exact Kj85 _ _ (by split <;> omega) hT
          · skip
            refine j_iconst F dX3_leaves_89 ?_
            refine j_goto F 94 (by decide) dX3_leaves_90 ?_
            exact Kj85 _ _ (by split <;> omega) hT
      · skip
        have hlr := htr (N 10 0 - 1) (by omega) (by omega)
        rw [← hI3] at hlr
        have hir := iab_rg hlr
        have hll := hlv _ hir.1 hir.2
        rw [← hI4] at hll
        unfold rg at hll
        refine j_aload_n F rfl dX3_leaves_7 ?_
        refine t_get F hT 6 (by decide) rfl q1492 dX3_leaves_8 ?_
        refine j_aload_n F rfl dX3_leaves_11 ?_
        refine t_get F hT 9 (by decide) rfl q1495 dX3_leaves_12 ?_
        refine j_aload_n F rfl dX3_leaves_15 ?_
        refine t_get F hT 10 (by decide) rfl q1496 dX3_leaves_16 ?_
        refine j_iconst F dX3_leaves_19 ?_
        refine j_isub F dX3_leaves_20 ?_
        refine t_iald F hT 9 tm_9 (by omega) dX3_leaves_21 ?_
        refine s_callI F (ct_X3_size l G KS (a := N 9 (N 10 0 - 1)) (by unfold rg; omega)) (by decide) (by decide) (lw_S q1591 q1592 q110 q1593) pd_X3_size rfl (Nat.le_of_ble_eq_true rfl) (Nat.le_refl _) (Nat.le_refl _) dX3_leaves_22 (fun v22 hv22 => ?_)
        subst hv22
        refine t_iald F hT 6 tm_6 (by omega) dX3_leaves_25 ?_
        refine j_iload_n F rfl dX3_leaves_26 ?_
        refine j_icmp_le F 84 (by decide) (by omega) (by omega) dX3_leaves_27 (fun c27 => ?_) (fun c27 => ?_)
        · skip
          have hex : ¬ (0 < N 10 0 ∧ b < N 6 (iab (N 9 (N 10 0 - 1)))) := by omega
          refine j_aload_n F rfl dX3_leaves_84 ?_
          refine j_joinT (x := x) (M := N) (G := G) (h0 := h0) 94 (fun w => w = if b < 0 then 0 else b) (fun w h hw hT => ?_) (fun Kj85 => ?_)
          · skip
            refine t_put F hT 11 (by decide) rfl rfl rfl (by decide) q1497 dX3_leaves_94 (fun h hT => ?_)
            exact j_vret F E (Nat.zero_le _) (Nat.zero_le _) dX3_leaves_97 (tv_post hT (by subst hw; unfold lvM; rw [← hI1, lvF_out hex]))
          · skip
            refine j_iload_n F rfl dX3_leaves_85 ?_
            refine j_if_ge F 93 (by decide) (by omega) dX3_leaves_86 (fun c86 => ?_) (fun c86 => ?_)
            · skip
              refine j_iload_n F rfl dX3_leaves_93 ?_
              exact Kj85 _ _ (by split <;> omega) hT
            · skip
              refine j_iconst F dX3_leaves_89 ?_
              refine j_goto F 94 (by decide) dX3_leaves_90 ?_
              exact Kj85 _ _ (by split <;> omega) hT
        · skip
          refine j_aload_n F rfl dX3_leaves_30 ?_
          refine j_dup F rfl dX3_leaves_31 ?_
          refine t_get F hT 10 (by decide) rfl q1496 dX3_leaves_32 ?_
          refine j_iconst F dX3_leaves_35 ?_
          refine j_isub F dX3_leaves_36 ?_
          refine t_put F hT 10 (by decide) rfl rfl rfl (by decide) q1496 dX3_leaves_37 (fun h hT => ?_)
          refine j_aload_n F rfl dX3_leaves_40 ?_
          refine t_get F hT 9 (by decide) rfl q1495 dX3_leaves_41 ?_
          refine j_aload_n F rfl dX3_leaves_44 ?_
          refine t_get F hT 10 (by decide) (v := vI (N 10 0 - 1)) rfl q1496 dX3_leaves_45 ?_
          refine t_ialdw F hT 9 tm_9 (N 9 (N 10 0 - 1)) rfl (by omega) dX3_leaves_48 ?_
          refine j_istore_n F (by decide) dX3_leaves_49 ?_
          refine j_aload_n F rfl dX3_leaves_50 ?_
          refine t_get F hT 1 (by decide) rfl q1487 dX3_leaves_51 ?_
          refine j_bipush F (by decide) dX3_leaves_54 ?_
          refine j_iload_n F rfl dX3_leaves_56 ?_
          refine s_callI F (ct_X3_size l G KS (a := N 9 (N 10 0 - 1)) (by unfold rg; omega)) (by decide) (by decide) (lw_S q1591 q1592 q110 q1593) pd_X3_size rfl (Nat.le_of_ble_eq_true rfl) (Nat.le_refl _) (Nat.le_refl _) dX3_leaves_57 (fun v57 hv57 => ?_)
          subst hv57
          refine j_iadd F dX3_leaves_60 ?_
          refine j_joinT (x := x) (M := oM N 10 0 (N 10 0 - 1)) (G := G) (h0 := h0) 70 (fun w => w = if 0 < N 9 (N 10 0 - 1) then 1 else 0) (fun w h hw hT => ?_) (fun Kj61 => ?_)
          · skip
            subst hw
            refine t_iast F hT 1 tm_1 rfl (by omega) dX3_leaves_70 (fun h hT => ?_)
            refine j_aload_n F rfl dX3_leaves_71 ?_
            refine t_get F hT 5 (by decide) rfl q1491 dX3_leaves_72 ?_
            refine j_iload_n F rfl dX3_leaves_75 ?_
            refine s_callI F (ct_X3_size l G KS (a := N 9 (N 10 0 - 1)) (by unfold rg; omega)) (by decide) (by decide) (lw_S q1591 q1592 q110 q1593) pd_X3_size rfl (Nat.le_of_ble_eq_true rfl) (Nat.le_refl _) (Nat.le_refl _) dX3_leaves_76 (fun v76 hv76 => ?_)
            subst hv76
            refine j_iconst F dX3_leaves_79 ?_
            refine t_iast F hT 5 tm_5 rfl (by omega) dX3_leaves_80 (fun h hT => ?_)
            refine j_goto F 0 (by decide) dX3_leaves_81 ?_
            refine j_lv (lv' := [(0, .ref x), (1, vI b)]) ⟨rfl, rfl, trivial⟩ ?_
            exact ih0  _ _ ⟨(lvF_in ⟨by omega, by omega⟩).symm.trans hI1, ⟨by show 0 ≤ N 10 0 - 1; omega, by show N 10 0 - 1 ≤ M 10 0; omega⟩, hI3, hI4⟩ (by show (N 10 0 - 1).toNat < m0; omega) hT
          · skip
            refine j_iload_n F rfl dX3_leaves_61 ?_
            refine j_if_le F 69 (by decide) (by omega) dX3_leaves_62 (fun c62 => ?_) (fun c62 => ?_)
            · skip
              refine j_iconst F dX3_leaves_69 ?_
              exact Kj61 _ _ (by split <;> omega) hT
            · skip
              refine j_iconst F dX3_leaves_65 ?_
              refine j_goto F 70 (by decide) dX3_leaves_66 ?_
              exact Kj61 _ _ (by split <;> omega) hT
  refine j_lv (lv' := [(0, .ref x), (1, vI b)]) ⟨rfl, rfl, trivial⟩ ?_
  exact L0 _  _ _ ⟨rfl, ⟨by omega, by omega⟩, rfl, rfl⟩ (Nat.lt_succ_self _) hT
