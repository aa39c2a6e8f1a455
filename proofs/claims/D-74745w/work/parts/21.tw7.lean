theorem rfM_R {M : Mt} (h : RI (M 1)) : RI (rfM M 1) := by
  have hl := h.lines
  have hr := h.ref
  have hm := h.many
  unfold rfM
  split
  · rename_i q
    have e : ∀ j : Int, oM (oM (oM (oM M 1 13 0) 1 7 1) 1 (925 + M 1 6) (-1)) 1 6 (M 1 6 + 1) 1 j = if j = 6 then M 1 6 + 1 else if j = 925 + M 1 6 then -1 else if j = 7 then 1 else if j = 13 then 0 else M 1 j := fun j => rfl
    generalize oM (oM (oM (oM M 1 13 0) 1 7 1) 1 (925 + M 1 6) (-1)) 1 6 (M 1 6 + 1) 1 = R' at e
    have g : ∀ j : Int, j ≠ 6 → j ≠ 925 + M 1 6 → j ≠ 7 → j ≠ 13 → R' j = M 1 j := fun j a b c d => by rw [e, if_neg a, if_neg b, if_neg c, if_neg d]
    have e6 : R' 6 = M 1 6 + 1 := by rw [e]; rfl
    have e7 : R' 7 = 1 := by rw [e, if_neg (by omega), if_neg (by omega)]; rfl
    have e9 : R' (925 + M 1 6) = -1 := by rw [e, if_neg (by omega), if_pos rfl]
    have es : ∀ c : Int, 0 ≤ c → c < M 1 1 → siz R' c = siz (M 1) c := fun c c0 c1 => g _ (by omega) (by omega) (by omega) (by omega)
    have ef : ∀ c : Int, 0 ≤ c → c < M 1 1 → flg R' c = flg (M 1) c := fun c c0 c1 => g _ (by omega) (by omega) (by omega) (by omega)
    have el : ∀ c k : Int, 0 ≤ c → 0 ≤ k → lit R' c k = lit (M 1) c k := fun c k c0 k0 => g _ (by omega) (by omega) (by omega) (by omega)
    obtain ⟨h0, h1, h2, h3, h4, h5, h6, h7, h8, h9, h10, h11, h12, h13, h14, h15, h16, h17⟩ := h
    have z0 := g 0 (by omega) (by omega) (by omega) (by omega)
    have z1 := g 1 (by omega) (by omega) (by omega) (by omega)
    have z3 := g 3 (by omega) (by omega) (by omega) (by omega)
    have z4 := g 4 (by omega) (by omega) (by omega) (by omega)
    refine ⟨by rw [z0]; exact h0, by rw [z1]; exact h1, by rw [g 2 (by omega) (by omega) (by omega) (by omega)]; exact h2, by rw [z3]; exact h3, by rw [z4]; exact h4, by rw [g 5 (by omega) (by omega) (by omega) (by omega)]; exact h5, by rw [e6, z1, e7]; omega, by rw [e7]; omega, by rw [g 14 (by omega) (by omega) (by omega) (by omega)]; exact h8, ?_, ?_, ?_, ?_, ?_, ?_, ?_, ?_, ?_⟩
    · intro k k0 k1
      rw [z3] at k1
      rw [z0, g (16 + k) (by omega) (by omega) (by omega) (by omega)]
      exact h9 k k0 k1
    · intro k k0 k1
      rw [z4] at k1
      rw [z0, g (24 + k) (by omega) (by omega) (by omega) (by omega)]
      exact h10 k k0 k1
    · intro v v0 v1
      rw [g _ (by omega) (by omega) (by omega) (by omega)]
      exact h11 v v0 v1
    · intro v v0 v1
      rw [g _ (by omega) (by omega) (by omega) (by omega)]
      exact h12 v v0 v1
    · intro c c0 c1
      rw [z1] at c1
      rw [es c c0 c1, ef c c0 c1, z0]
      obtain ⟨q1, q2, q3, q4, q5⟩ := h13 c c0 c1
      exact ⟨q1, q2, q3, q4, fun k k0 k1 => by rw [el c k c0 k0]; exact q5 k k0 k1⟩
    · intro k k0 k1
      rw [e6] at k1
      by_cases ek : k = M 1 6
      · rw [ek, e9]
        exact Or.inl rfl
      · rw [g _ (by omega) (by omega) (by omega) (by omega), z1]
        exact h14 k k0 (by omega)
    · intro c c0 c1 i j i0 i1 j0 j1
      rw [z1] at c1
      rw [es c c0 c1] at i1 j1
      rw [el c i c0 i0, el c j c0 j0]
      exact h15 c c0 c1 i j i0 i1 j0 j1
    · intro i j i0 i1 j0 j1
      rw [z3] at i1 j1
      rw [g (16 + i) (by omega) (by omega) (by omega) (by omega), g (16 + j) (by omega) (by omega) (by omega) (by omega)]
      exact h16 i j i0 i1 j0 j1
    · intro i j i0 i1 j0 j1
      rw [z4] at i1 j1
      rw [g (24 + i) (by omega) (by omega) (by omega) (by omega), g (24 + j) (by omega) (by omega) (by omega) (by omega)]
      exact h17 i j i0 i1 j0 j1
  · exact h.ext (fun j hj => oI_n _ _ (fun e => hj (by unfold RIx; omega)))
theorem rfM_T {M : Mt} (h : TR M) : TR (rfM M) := by
  unfold rfM
  split
  · exact h
  · exact h
/-- all literals of a clause are marked: the first n of them -/
def mkF (R : Int → Int) (c : Int) : Nat → (Int → Int) → Int → Int
  | 0, f => f
  | n + 1, f => oI (mkF R c n f) (iab (lit R c n)) 1
theorem mkF_s {R : Int → Int} {c i : Int} {f : Int → Int} (hi : 0 ≤ i) : mkF R c (i + 1).toNat f = oI (mkF R c i.toNat f) (iab (lit R c i)) 1 := by
  have e : (i + 1).toNat = i.toNat + 1 := by omega
  rw [e, mkF, Int.toNat_of_nonneg hi]
theorem b01_o {f : Int → Int} (hf : b01 f) (i : Int) : b01 (oI f i 1) := fun v v0 v1 => by
  unfold oI
  split
  · exact Or.inr rfl
  · exact hf v v0 v1
theorem mkF_01 {R : Int → Int} {c : Int} {f : Int → Int} (hf : b01 f) : ∀ n : Nat, b01 (mkF R c n f)
  | 0 => hf
  | n + 1 => b01_o (mkF_01 hf n) _
/-- down the trail: what is asked, the assumptions so far -/
noncomputable def coF (M : Mt) : Nat → (Int → Int) → Int → (Int → Int) × Int
  | 0, f, s => (f, s)
  | n + 1, f, s => if f (iab (M 9 n)) = 0 then coF M n f s else coF M n (if M 7 (iab (M 9 n)) = -1 then f else mkF (M 1) (M 7 (iab (M 9 n))) (siz (M 1) (M 7 (iab (M 9 n)))).toNat f) (if M 7 (iab (M 9 n)) = -1 ∧ 0 < M 6 (iab (M 9 n)) then ior9 s (shl9 1 (lst (fun k => iab (M 1 (16 + k)) = iab (M 9 n)) (M 1 3))) else s)
/-- nothing is marked but one -/
theorem clr_s {f : Int → Int} {i : Int} (hi : 0 ≤ i) : oI (fun v => if 0 ≤ v ∧ v < i then 0 else f v) i 0 = fun v => if 0 ≤ v ∧ v < i + 1 then 0 else f v := by
  funext v
  unfold oI
  by_cases e : v = i
  · rw [if_pos e, if_pos (by omega)]
  · rw [if_neg e]
    show (if 0 ≤ v ∧ v < i then 0 else f v) = _
    by_cases e2 : 0 ≤ v ∧ v < i
    · rw [if_pos e2, if_pos (by omega)]
    · rw [if_neg e2, if_neg (by omega)]
def one9 (f : Int → Int) (a : Int) : Int → Int := oI (fun v => if 0 ≤ v ∧ v < 31 then 0 else f v) a 1
theorem one9_01 (f : Int → Int) (a : Int) : b01 (one9 f a) := b01_o (fun v v0 v1 => by rw [if_pos (by omega)]; exact Or.inl rfl) a
theorem coF_s {M : Mt} {k s : Int} {f : Int → Int} (hk : 0 ≤ k) : coF M (k + 1).toNat f s = if f (iab (M 9 k)) = 0 then coF M k.toNat f s else coF M k.toNat (if M 7 (iab (M 9 k)) = -1 then f else mkF (M 1) (M 7 (iab (M 9 k))) (siz (M 1) (M 7 (iab (M 9 k)))).toNat f) (if M 7 (iab (M 9 k)) = -1 ∧ 0 < M 6 (iab (M 9 k)) then ior9 s (shl9 1 (lst (fun q => iab (M 1 (16 + q)) = iab (M 9 k)) (M 1 3))) else s) := by
  have e : (k + 1).toNat = k.toNat + 1 := by omega
  rw [e, coF, Int.toNat_of_nonneg hk]
theorem pd_X3_refuted : yX3_refuted.cls = RX3 ∧ yX3_refuted.cls ≠ "java/lang/invoke/MethodHandle" ∧ yX3_refuted.cls ≠ "java/lang/invoke/VarHandle" ∧ (parseMethodDescriptor yX3_refuted.desc).map (fun d => d.parameters.length) = some 0 := by decide +kernel
theorem ct_X3_refuted (l : Launch) (G : Gt) (KS : Ks l G) (x : Nat) (M : Mt) (hR : RI (M 1)) (hTR : TR M) : TI l G yX3_refuted cX3_refuted 1 (some FieldType.int) 4 x [] M (fun v M' => v = 0 ∧ M' = enM (rfM M) 0) := by
  intro h0 h hT
  refine ct_of KS (by decide) (Nat.le_of_ble_eq_true rfl) (fun X F E => ?_)
  refine j_lv (lv' := [(0, .ref x)]) ⟨rfl, trivial⟩ ?_
  have hl := hR.lines
  have hrf := hR.ref
  have hm := hR.many
  have hR' := rfM_R hR
  have hT' := rfM_T hTR
  refine j_aload_n F rfl dX3_refuted_0 ?_
  refine t_get F hT 1 (by decide) rfl q1487 dX3_refuted_1 ?_
  refine j_bipush F (by decide) dX3_refuted_4 ?_
  refine j_iconst F dX3_refuted_6 ?_
  refine t_iast F hT 1 tm_1 rfl (by omega) dX3_refuted_7 (fun h hT => ?_)
  refine j_aload_n F rfl dX3_refuted_8 ?_
  refine t_get F hT 1 (by decide) rfl q1487 dX3_refuted_9 ?_
  refine j_bipush F (by decide) dX3_refuted_12 ?_
  refine t_ialdw F hT 1 tm_1 (M 1 7) (by rw [oM_s, oI_n _ _ (by omega)]) (by omega) dX3_refuted_14 ?_
  refine j_if_ne F 54 (by decide) (by omega) dX3_refuted_15 (fun c15 => ?_) (fun c15 => ?_)
  · skip
    have er : rfM M = oM M 1 13 0 := if_neg c15
    refine j_aload_n F rfl dX3_refuted_54 ?_
    refine j_iconst F dX3_refuted_55 ?_
    refine t_callI F hT (ct_X3_ends l G KS x _ (a := 0) (by unfold rg; omega) (er ▸ hR') (er ▸ hT')) (by decide) (by decide) (lw_V q1665 q1667 qs60 q110 q1668) pd_X3_ends rfl (Nat.le_of_ble_eq_true rfl) (Nat.le_refl _) (Nat.le_refl _) dX3_refuted_56 (fun v56 M56 h hv56 hT => ?_)
    rw [← er] at hv56
    exact j_iret F E (Nat.zero_le _) (Nat.zero_le _) dX3_refuted_59 (ti_post hT ⟨hv56.1, hv56.2⟩)
  · skip
    have er : rfM M = oM (oM (oM (oM M 1 13 0) 1 7 1) 1 (925 + M 1 6) (-1)) 1 6 (M 1 6 + 1) := if_pos c15
    refine j_aload_n F rfl dX3_refuted_18 ?_
    refine t_get F hT 1 (by decide) rfl q1487 dX3_refuted_19 ?_
    refine j_bipush F (by decide) dX3_refuted_22 ?_
    refine j_iconst F dX3_refuted_24 ?_
    refine t_iast F hT 1 tm_1 rfl (by omega) dX3_refuted_25 (fun h hT => ?_)
    refine j_aload_n F rfl dX3_refuted_26 ?_
    refine t_get F hT 1 (by decide) rfl q1487 dX3_refuted_27 ?_
    refine j_sipush F (by decide) dX3_refuted_30 ?_
    refine j_aload_n F rfl dX3_refuted_33 ?_
    refine t_get F hT 1 (by decide) rfl q1487 dX3_refuted_34 ?_
    refine j_bipush F (by decide) dX3_refuted_37 ?_
    refine t_ialdw F hT 1 tm_1 (M 1 6) (by rw [oM_s, oI_n _ _ (by omega), oM_s, oI_n _ _ (by omega)]) (by omega) dX3_refuted_39 ?_
    refine j_iadd F dX3_refuted_40 ?_
    refine j_iconst F dX3_refuted_41 ?_
    refine t_iast F hT 1 tm_1 rfl (by omega) dX3_refuted_42 (fun h hT => ?_)
    refine j_aload_n F rfl dX3_refuted_43 ?_
    refine t_get F hT 1 (by decide) rfl q1487 dX3_refuted_44 ?_
    refine j_bipush F (by decide) dX3_refuted_47 ?_
    refine j_dup2 F rfl rfl dX3_refuted_49 ?_
    refine t_ialdw F hT 1 tm_1 (M 1 6) (by rw [oM_s, oI_n _ _ (by omega), oM_s, oI_n _ _ (by omega), oM_s, oI_n _ _ (by omega)]) (by omega) dX3_refuted_50 ?_
    refine j_iconst F dX3_refuted_51 ?_
    refine j_iadd F dX3_refuted_52 ?_
    refine t_iast F hT 1 tm_1 rfl (by omega) dX3_refuted_53 (fun h hT => ?_)
    refine j_aload_n F rfl dX3_refuted_54 ?_
    refine j_iconst F dX3_refuted_55 ?_
    refine t_callI F hT (ct_X3_ends l G KS x _ (a := 0) (by unfold rg; omega) (er ▸ hR') (er ▸ hT')) (by decide) (by decide) (lw_V q1665 q1667 qs60 q110 q1668) pd_X3_ends rfl (Nat.le_of_ble_eq_true rfl) (Nat.le_refl _) (Nat.le_refl _) dX3_refuted_56 (fun v56 M56 h hv56 hT => ?_)
    rw [← er] at hv56
    exact j_iret F E (Nat.zero_le _) (Nat.zero_le _) dX3_refuted_59 (ti_post hT ⟨hv56.1, hv56.2⟩)

theorem pd_X3_coreOf : yX3_coreOf.cls = RX3 ∧ yX3_coreOf.cls ≠ "java/lang/invoke/MethodHandle" ∧ yX3_coreOf.cls ≠ "java/lang/invoke/VarHandle" ∧ (parseMethodDescriptor yX3_coreOf.desc).map (fun d => d.parameters.length) = some 1 := by decide +kernel
theorem ct_X3_coreOf (l : Launch) (G : Gt) (KS : Ks l G) (x : Nat) (M : Mt) {a : Int} (hR : RI (M 1)) (hTR : TR M) (ha : 0 ≤ a ∧ a < M 1 3) (hrs : ∀ p : Int, 0 ≤ p → p < M 10 0 → M 7 (iab (M 9 p)) = -1 ∨ (0 ≤ M 7 (iab (M 9 p)) ∧ M 7 (iab (M 9 p)) < M 1 1)) : TI l G yX3_coreOf cX3_coreOf 6 (some FieldType.int) 3 x [vI a] M (fun v M' => v = (coF M (M 10 0).toNat (one9 (M 12) (iab (M 1 (16 + a)))) (shl9 1 a)).2 ∧ M' = sM M 12 (coF M (M 10 0).toNat (one9 (M 12) (iab (M 1 (16 + a)))) (shl9 1 a)).1) := by
  intro h0 h hT
  refine ct_of KS (by decide) (Nat.le_of_ble_eq_true rfl) (fun X F E => ?_)
  refine j_lv (lv' := [(0, .ref x), (1, vI a)]) ⟨rfl, rfl, trivial⟩ ?_
  have has := hR.as
  have hV := hR.V
  have hal := hR.asl ha.1 ha.2
  have hai := iab_lok hal
  unfold lok at hal
  have htd := hTR.trd
  have hm := hR.many
  refine j_iconst F dX3_coreOf_0 ?_
  refine j_istore_n F (by decide) dX3_coreOf_1 ?_
  have L2 : ∀ (m2 : Nat) (i : Int) (N : Mt) (h : Hp), (0 ≤ i ∧ i ≤ 31 ∧ N = sM M 12 (fun v => if 0 ≤ v ∧ v < i then 0 else M 12 v)) → (31 - i).toNat < m2 → Tw G x N h0 h → J X h 2 [(0, .ref x), (1, vI a), (2, vI i)] [] 0 0 := by
    intro m2
    induction m2 with
    | zero => intro i N h hI hm2 hT; exact absurd hm2 (Nat.not_lt_zero _)
    | succ m2 ih2 =>
      intro i N h hI hm2 hT
      obtain ⟨hJ0, hJ1, hJ2⟩ := hI
      subst hJ2
      refine j_iload_n F rfl dX3_coreOf_2 ?_
      refine j_bipush F (by decide) dX3_coreOf_3 ?_
      refine j_icmp_gt F 21 (by decide) (by omega) (by omega) dX3_coreOf_5 (fun c5 => ?_) (fun c5 => ?_)
      · skip
        refine j_aload_n F rfl dX3_coreOf_21 ?_
        refine t_get F hT 12 (by decide) rfl q1498 dX3_coreOf_22 ?_
        refine j_aload_n F rfl dX3_coreOf_25 ?_
        refine t_get F hT 1 (by decide) rfl q1487 dX3_coreOf_26 ?_
        refine j_bipush F (by decide) dX3_coreOf_29 ?_
        refine j_iload_n F rfl dX3_coreOf_31 ?_
        refine j_iadd F dX3_coreOf_32 ?_
        refine t_ialdw F hT 1 tm_1 (M 1 (16 + a)) rfl (by omega) dX3_coreOf_33 ?_
        refine s_callI F (ct_X3_size l G KS (a := M 1 (16 + a)) (by unfold rg; omega)) (by decide) (by decide) (lw_S q1591 q1592 q110 q1593) pd_X3_size rfl (Nat.le_of_ble_eq_true rfl) (Nat.le_refl _) (Nat.le_refl _) dX3_coreOf_34 (fun v34 hv34 => ?_)
        subst hv34
        refine j_iconst F dX3_coreOf_37 ?_
        refine t_zast F hT 12 tm_12 rfl (by omega) (by omega) dX3_coreOf_38 (fun h hT => ?_)
        refine j_iconst F dX3_coreOf_39 ?_
        refine j_iload_n F rfl dX3_coreOf_40 ?_
        refine j_ishl F _ (shl9_e _ _) dX3_coreOf_41 ?_
        refine j_istore_n F (by decide) dX3_coreOf_42 ?_
        refine j_aload_n F rfl dX3_coreOf_43 ?_
        refine t_get F hT 10 (by decide) (v := vI (M 10 0)) rfl q1496 dX3_coreOf_44 ?_
        refine j_iconst F dX3_coreOf_47 ?_
        refine j_isub F dX3_coreOf_48 ?_
        refine j_istore_n F (by decide) dX3_coreOf_49 ?_
        have L50 : ∀ (m50 : Nat) (k s : Int) (f : Int → Int) (N5 : Mt) (h : Hp), (-1 ≤ k ∧ k < M 10 0 ∧ b01 f ∧ coF M (k + 1).toNat f s = coF M (M 10 0).toNat (one9 (M 12) (iab (M 1 (16 + a)))) (shl9 1 a) ∧ N5 = sM M 12 f) → (k + 1).toNat < m50 → Tw G x N5 h0 h → J X h 50 [(0, .ref x), (1, vI a), (2, vI s), (3, vI k)] [] 0 0 := by
          intro m50
          induction m50 with
          | zero => intro k s f N5 h hI hm50 hT; exact absurd hm50 (Nat.not_lt_zero _)
          | succ m50 ih50 =>
            intro k s f N5 h hI hm50 hT
            obtain ⟨hI0, hI1, hI2, hI3, hI4⟩ := hI
            subst hI4
            refine j_iload_n F rfl dX3_coreOf_50 ?_
            refine j_if_lt F 174 (by decide) (by omega) dX3_coreOf_51 (fun c51 => ?_) (fun c51 => ?_)
            · skip
              refine j_iload_n F rfl dX3_coreOf_174 ?_
              exact j_iret F E (Nat.zero_le _) (Nat.zero_le _) dX3_coreOf_175 (ti_post hT (by
                rw [show k = -1 by omega, show (((-1 : Int) + 1).toNat) = 0 from rfl, coF] at hI3
                rw [← hI3]
                exact ⟨rfl, rfl⟩))
            · skip
              have hlr := hTR.tra (p := k) (by omega) (by omega)
              have hir := iab_rg hlr
              have h6 := hTR.lev hir.1 hir.2
              have h7 := hTR.rea hir.1 hir.2
              have hf9 := hI2 _ hir.1 hir.2
              have hr9 := hrs k (by omega) hI1
              rw [coF_s (by omega)] at hI3
              refine j_aload_n F rfl dX3_coreOf_54 ?_
              refine t_get F hT 9 (by decide) rfl q1495 dX3_coreOf_55 ?_
              refine j_iload_n F rfl dX3_coreOf_58 ?_
              refine t_ialdw F hT 9 tm_9 (M 9 k) rfl (by omega) dX3_coreOf_59 ?_
              refine s_callI F (ct_X3_size l G KS (a := M 9 k) (by unfold rg; omega)) (by decide) (by decide) (lw_S q1591 q1592 q110 q1593) pd_X3_size rfl (Nat.le_of_ble_eq_true rfl) (Nat.le_refl _) (Nat.le_refl _) dX3_coreOf_60 (fun v60 hv60 => ?_)
              subst hv60
              refine j_istore F (by decide) dX3_coreOf_63 ?_
              refine j_aload_n F rfl dX3_coreOf_65 ?_
              refine t_get F hT 12 (by decide) rfl q1498 dX3_coreOf_66 ?_
              refine j_iload F rfl dX3_coreOf_69 ?_
              refine t_zaldw F hT 12 tm_12 (f (iab (M 9 k))) rfl (by omega) dX3_coreOf_71 ?_
              refine j_if_ne F 78 (by decide) (by omega) dX3_coreOf_72 (fun c72 => ?_) (fun c72 => ?_)
              · skip
                rw [if_neg c72] at hI3
                refine j_aload_n F rfl dX3_coreOf_78 ?_
                refine t_get F hT 7 (by decide) rfl q1493 dX3_coreOf_79 ?_
                refine j_iload F rfl dX3_coreOf_82 ?_
                refine t_ialdw F hT 7 tm_7 (M 7 (iab (M 9 k))) rfl (by omega) dX3_coreOf_84 ?_
                refine j_iconst F dX3_coreOf_85 ?_
                refine j_icmp_ne F 110 (by decide) (by omega) (by omega) dX3_coreOf_86 (fun c86 => ?_) (fun c86 => ?_)
                · skip
                  rw [if_neg (show ¬ (M 7 (iab (M 9 k)) = -1 ∧ 0 < M 6 (iab (M 9 k))) by omega)] at hI3
                  skip
                  refine j_iconst F dX3_coreOf_110 ?_
                  refine j_istore F (by decide) dX3_coreOf_111 ?_
                  have L113 : ∀ (m113 : Nat) (i : Int) (N6 : Mt) (h : Hp), (0 ≤ i ∧ N6 = sM M 12 (if M 7 (iab (M 9 k)) = -1 then f else mkF (M 1) (M 7 (iab (M 9 k))) i.toNat f) ∧ (M 7 (iab (M 9 k)) ≠ -1 → i ≤ siz (M 1) (M 7 (iab (M 9 k))))) → (siz (M 1) (M 7 (iab (M 9 k))) - i).toNat < m113 → Tw G x N6 h0 h → J X h 113 [(0, .ref x), (1, vI a), (2, vI s), (3, vI k), (4, vI (iab (M 9 k))), (5, vI i)] [] 0 0 := by
                    intro m113
                    induction m113 with
                    | zero => intro i N6 h hI hm113 hT; exact absurd hm113 (Nat.not_lt_zero _)
                    | succ m113 ih113 =>
                      intro i N6 h hI hm113 hT
                      obtain ⟨hK0, hK1, hK2⟩ := hI
                      subst hK1
                      refine j_aload_n F rfl dX3_coreOf_113 ?_
                      refine t_get F hT 7 (by decide) rfl q1493 dX3_coreOf_114 ?_
                      refine j_iload F rfl dX3_coreOf_117 ?_
                      refine t_ialdw F hT 7 tm_7 (M 7 (iab (M 9 k))) rfl (by omega) dX3_coreOf_119 ?_
                      refine j_iconst F dX3_coreOf_120 ?_
                      refine j_icmp_eq F 168 (by decide) (by omega) (by omega) dX3_coreOf_121 (fun c121 => ?_) (fun c121 => ?_)
                      · skip
                        refine j_iinc F rfl (by decide) dX3_coreOf_168 ?_
                        refine j_goto F 50 (by decide) dX3_coreOf_171 ?_
                        refine j_lv (lv' := [(0, .ref x), (1, vI a), (2, vI s), (3, vI (k - 1))]) ⟨rfl, rfl, rfl, rfl, trivial⟩ ?_
                        exact ih50 (k - 1) s (if M 7 (iab (M 9 k)) = -1 then f else mkF (M 1) (M 7 (iab (M 9 k))) i.toNat f) _ _ ⟨by omega, by omega, by first | (rw [if_pos (show M 7 (iab (M 9 k)) = -1 by omega)]; exact hI2) | (rw [if_neg (show ¬ M 7 (iab (M 9 k)) = -1 by omega)]; exact mkF_01 hI2 _), by rw [show k - 1 + 1 = k by omega, ← hI3]; first | rw [if_pos (show M 7 (iab (M 9 k)) = -1 by omega), if_pos (show M 7 (iab (M 9 k)) = -1 by omega)] | rw [if_neg (show ¬ M 7 (iab (M 9 k)) = -1 by omega), if_neg (show ¬ M 7 (iab (M 9 k)) = -1 by omega), show siz (M 1) (M 7 (iab (M 9 k))) = i by omega], rfl⟩ (by omega) hT
                      · skip
                        refine j_iload F rfl dX3_coreOf_124 ?_
                        refine j_aload_n F rfl dX3_coreOf_126 ?_
                        refine j_aload_n F rfl dX3_coreOf_127 ?_
                        refine t_get F hT 7 (by decide) rfl q1493 dX3_coreOf_128 ?_
                        refine j_iload F rfl dX3_coreOf_131 ?_
                        refine t_ialdw F hT 7 tm_7 (M 7 (iab (M 9 k))) rfl (by omega) dX3_coreOf_133 ?_
                        refine t_callI F hT (ct_X3_sizeOf l G KS x _ (c := M 7 (iab (M 9 k))) (by omega)) (by decide) (by decide) (lw_V q1641 q1643 qs57 q110 q1644) pd_X3_sizeOf rfl (Nat.le_of_ble_eq_true rfl) (Nat.le_refl _) (Nat.le_refl _) dX3_coreOf_134 (fun v134 M' h hv134 hT => ?_)
                        obtain ⟨hv134, rfl⟩ := hv134
                        have e134 : v134 = siz (M 1) (M 7 (iab (M 9 k))) := hv134
                        subst e134
                        refine j_icmp_ge F 168 (by decide) (by have := hR.cl (c := M 7 (iab (M 9 k))) (by omega) (by omega); omega) (by have := hR.cl (c := M 7 (iab (M 9 k))) (by omega) (by omega); omega) dX3_coreOf_137 (fun c137 => ?_) (fun c137 => ?_)
                        · skip
                          refine j_iinc F rfl (by decide) dX3_coreOf_168 ?_
                          refine j_goto F 50 (by decide) dX3_coreOf_171 ?_
                          refine j_lv (lv' := [(0, .ref x), (1, vI a), (2, vI s), (3, vI (k - 1))]) ⟨rfl, rfl, rfl, rfl, trivial⟩ ?_
                          exact ih50 (k - 1) s (if M 7 (iab (M 9 k)) = -1 then f else mkF (M 1) (M 7 (iab (M 9 k))) i.toNat f) _ _ ⟨by omega, by omega, by first | (rw [if_pos (show M 7 (iab (M 9 k)) = -1 by omega)]; exact hI2) | (rw [if_neg (show ¬ M 7 (iab (M 9 k)) = -1 by omega)]; exact mkF_01 hI2 _), by rw [show k - 1 + 1 = k by omega, ← hI3]; first | rw [if_pos (show M 7 (iab (M 9 k)) = -1 by omega), if_pos (show M 7 (iab (M 9 k)) = -1 by omega)] | rw [if_neg (show ¬ M 7 (iab (M 9 k)) = -1 by omega), if_neg (show ¬ M 7 (iab (M 9 k)) = -1 by omega), show siz (M 1) (M 7 (iab (M 9 k))) = i by omega], rfl⟩ (by omega) hT
                        · skip
                          have hcl := hR.cl (c := M 7 (iab (M 9 k))) (by omega) (by omega)
                          have hll := (hR.ll (c := M 7 (iab (M 9 k))) (k := i) (by omega) (by omega) hK0 (by omega)).2
                          have hli := iab_rg hll
                          refine j_aload_n F rfl dX3_coreOf_140 ?_
                          refine t_get F hT 12 (by decide) rfl q1498 dX3_coreOf_141 ?_
                          refine j_aload_n F rfl dX3_coreOf_144 ?_
                          refine j_aload_n F rfl dX3_coreOf_145 ?_
                          refine t_get F hT 7 (by decide) rfl q1493 dX3_coreOf_146 ?_
                          refine j_iload F rfl dX3_coreOf_149 ?_
                          refine t_ialdw F hT 7 tm_7 (M 7 (iab (M 9 k))) rfl (by omega) dX3_coreOf_151 ?_
                          refine j_iload F rfl dX3_coreOf_152 ?_
                          refine t_callI F hT (ct_X3_literal l G KS x _ (c := M 7 (iab (M 9 k))) (k := i) (by omega) (by omega)) (by decide) (by decide) (lw_V q1685 q1687 qs65 q110 q1688) pd_X3_literal rfl (Nat.le_of_ble_eq_true rfl) (Nat.le_refl _) (Nat.le_refl _) dX3_coreOf_154 (fun v154 M' h hv154 hT => ?_)
                          obtain ⟨hv154, rfl⟩ := hv154
                          have e154 : v154 = lit (M 1) (M 7 (iab (M 9 k))) i := hv154
                          subst e154
                          refine s_callI F (ct_X3_size l G KS (a := lit (M 1) (M 7 (iab (M 9 k))) i) (by unfold rg; omega)) (by decide) (by decide) (lw_S q1591 q1592 q110 q1593) pd_X3_size rfl (Nat.le_of_ble_eq_true rfl) (Nat.le_refl _) (Nat.le_refl _) dX3_coreOf_157 (fun v157 hv157 => ?_)
                          subst hv157
                          refine j_iconst F dX3_coreOf_160 ?_
                          refine t_zast F hT 12 tm_12 rfl (by omega) (by omega) dX3_coreOf_161 (fun h hT => ?_)
                          refine j_iinc F rfl (by decide) dX3_coreOf_162 ?_
                          refine j_goto F 113 (by decide) dX3_coreOf_165 ?_
                          refine j_lv (lv' := [(0, .ref x), (1, vI a), (2, vI s), (3, vI k), (4, vI (iab (M 9 k))), (5, vI (i + 1))]) ⟨rfl, rfl, rfl, rfl, rfl, rfl, trivial⟩ ?_
                          exact ih113 (i + 1) _ _ ⟨by omega, by rw [if_neg c121, if_neg c121, oM_sM, mkF_s hK0], fun q => by omega⟩ (by omega) hT
                  refine j_lv (lv' := [(0, .ref x), (1, vI a), (2, vI s), (3, vI k), (4, vI (iab (M 9 k))), (5, vI 0)]) ⟨rfl, rfl, rfl, rfl, rfl, rfl, trivial⟩ ?_
                  exact L113 _ 0 _ _ ⟨by omega, by split <;> rfl, fun q => by have := hR.cl (c := M 7 (iab (M 9 k))) (by omega) (by omega); omega⟩ (Nat.lt_succ_self _) hT
                · skip
                  refine j_aload_n F rfl dX3_coreOf_89 ?_
                  refine t_get F hT 6 (by decide) rfl q1492 dX3_coreOf_90 ?_
                  refine j_iload F rfl dX3_coreOf_93 ?_
                  refine t_ialdw F hT 6 tm_6 (M 6 (iab (M 9 k))) rfl (by omega) dX3_coreOf_95 ?_
                  refine j_if_le F 110 (by decide) (by omega) dX3_coreOf_96 (fun c96 => ?_) (fun c96 => ?_)
                  · skip
                    rw [if_neg (show ¬ (M 7 (iab (M 9 k)) = -1 ∧ 0 < M 6 (iab (M 9 k))) by omega)] at hI3
                    skip
                    refine j_iconst F dX3_coreOf_110 ?_
                    refine j_istore F (by decide) dX3_coreOf_111 ?_
                    have L113 : ∀ (m113 : Nat) (i : Int) (N6 : Mt) (h : Hp), (0 ≤ i ∧ N6 = sM M 12 (if M 7 (iab (M 9 k)) = -1 then f else mkF (M 1) (M 7 (iab (M 9 k))) i.toNat f) ∧ (M 7 (iab (M 9 k)) ≠ -1 → i ≤ siz (M 1) (M 7 (iab (M 9 k))))) → (siz (M 1) (M 7 (iab (M 9 k))) - i).toNat < m113 → Tw G x N6 h0 h → J X h 113 [(0, .ref x), (1, vI a), (2, vI s), (3, vI k), (4, vI (iab (M 9 k))), (5, vI i)] [] 0 0 := by
                      intro m113
                      induction m113 with
                      | zero => intro i N6 h hI hm113 hT; exact absurd hm113 (Nat.not_lt_zero _)
                      | succ m113 ih113 =>
                        intro i N6 h hI hm113 hT
                        obtain ⟨hK0, hK1, hK2⟩ := hI
                        subst hK1
                        refine j_aload_n F rfl dX3_coreOf_113 ?_
                        refine t_get F hT 7 (by decide) rfl q1493 dX3_coreOf_114 ?_
                        refine j_iload F rfl dX3_coreOf_117 ?_
                        refine t_ialdw F hT 7 tm_7 (M 7 (iab (M 9 k))) rfl (by omega) dX3_coreOf_119 ?_
                        refine j_iconst F dX3_coreOf_120 ?_
                        refine j_icmp_eq F 168 (by decide) (by omega) (by omega) dX3_coreOf_121 (fun c121 => ?_) (fun c121 => ?_)
                        · skip
                          refine j_iinc F rfl (by decide) dX3_coreOf_168 ?_
                          refine j_goto F 50 (by decide) dX3_coreOf_171 ?_
                          refine j_lv (lv' := [(0, .ref x), (1, vI a), (2, vI s), (3, vI (k - 1))]) ⟨rfl, rfl, rfl, rfl, trivial⟩ ?_
                          exact ih50 (k - 1) s (if M 7 (iab (M 9 k)) = -1 then f else mkF (M 1) (M 7 (iab (M 9 k))) i.toNat f) _ _ ⟨by omega, by omega, by first | (rw [if_pos (show M 7 (iab (M 9 k)) = -1 by omega)]; exact hI2) | (rw [if_neg (show ¬ M 7 (iab (M 9 k)) = -1 by omega)]; exact mkF_01 hI2 _), by rw [show k - 1 + 1 = k by omega, ← hI3]; first | rw [if_pos (show M 7 (iab (M 9 k)) = -1 by omega), if_pos (show M 7 (iab (M 9 k)) = -1 by omega)] | rw [if_neg (show ¬ M 7 (iab (M 9 k)) = -1 by omega), if_neg (show ¬ M 7 (iab (M 9 k)) = -1 by omega), show siz (M 1) (M 7 (iab (M 9 k))) = i by omega], rfl⟩ (by omega) hT
                        · skip
                          refine j_iload F rfl dX3_coreOf_124 ?_
                          refine j_aload_n F rfl dX3_coreOf_126 ?_
                          refine j_aload_n F rfl dX3_coreOf_127 ?_
                          refine t_get F hT 7 (by decide) rfl q1493 dX3_coreOf_128 ?_
                          refine j_iload F rfl dX3_coreOf_131 ?_
                          refine t_ialdw F hT 7 tm_7 (M 7 (iab (M 9 k))) rfl (by omega) dX3_coreOf_133 ?_
                          refine t_callI F hT (ct_X3_sizeOf l G KS x _ (c := M 7 (iab (M 9 k))) (by omega)) (by decide) (by decide) (lw_V q1641 q1643 qs57 q110 q1644) pd_X3_sizeOf rfl (Nat.le_of_ble_eq_true rfl) (Nat.le_refl _) (Nat.le_refl _) dX3_coreOf_134 (fun v134 M' h hv134 hT => ?_)
                          obtain ⟨hv134, rfl⟩ := hv134
                          have e134 : v134 = siz (M 1) (M 7 (iab (M 9 k))) := hv134
                          subst e134
                          refine j_icmp_ge F 168 (by decide) (by have := hR.cl (c := M 7 (iab (M 9 k))) (by omega) (by omega); omega) (by have := hR.cl (c := M 7 (iab (M 9 k))) (by omega) (by omega); omega) dX3_coreOf_137 (fun c137 => ?_) (fun c137 => ?_)
                          · skip
                            refine j_iinc F rfl (by decide) dX3_coreOf_168 ?_
                            refine j_goto F 50 (by decide) dX3_coreOf_171 ?_
                            refine j_lv (lv' := [(0, .ref x), (1, vI a), (2, vI s), (3, vI (k - 1))]) ⟨rfl, rfl, rfl, rfl, trivial⟩ ?_
                            exact ih50 (k - 1) s (if M 7 (iab (M 9 k)) = -1 then f else mkF (M 1) (M 7 (iab (M 9 k))) i.toNat f) _ _ ⟨by omega, by omega, by first | (rw [if_pos (show M 7 (iab (M 9 k)) = -1 by omega)]; exact hI2) | (rw [if_neg (show ¬ M 7 (iab (M 9 k)) = -1 by omega)]; exact mkF_01 hI2 _), by rw [show k - 1 + 1 = k by omega, ← hI3]; first | rw [if_pos (show M 7 (iab (M 9 k)) = -1 by omega), if_pos (show M 7 (iab (M 9 k)) = -1 by omega)] | rw [if_neg (show ¬ M 7 (iab (M 9 k)) = -1 by omega), if_neg (show ¬ M 7 (iab (M 9 k)) = -1 by omega), show siz (M 1) (M 7 (iab (M 9 k))) = i by omega], rfl⟩ (by omega) hT
                          · skip
                            have hcl := hR.cl (c := M 7 (iab (M 9 k))) (by omega) (by omega)
                            have hll := (hR.ll (c := M 7 (iab (M 9 k))) (k := i) (by omega) (by omega) hK0 (by omega)).2
                            have hli := iab_rg hll
                            refine j_aload_n F rfl dX3_coreOf_140 ?_
                            refine t_get F hT 12 (by decide) rfl q1498 dX3_coreOf_141 ?_
                            refine j_aload_n F rfl dX3_coreOf_144 ?_
                            refine j_aload_n F rfl dX3_coreOf_145 ?_
                            refine t_get F hT 7 (by decide) rfl q1493 dX3_coreOf_146 ?_
                            refine j_iload F rfl dX3_coreOf_149 ?_
                            refine t_ialdw F hT 7 tm_7 (M 7 (iab (M 9 k))) rfl (by omega) dX3_coreOf_151 ?_
                            refine j_iload F rfl dX3_coreOf_152 ?_
                            refine t_callI F hT (ct_X3_literal l G KS x _ (c := M 7 (iab (M 9 k))) (k := i) (by omega) (by omega)) (by decide) (by decide) (lw_V q1685 q1687 qs65 q110 q1688) pd_X3_literal rfl (Nat.le_of_ble_eq_true rfl) (Nat.le_refl _) (Nat.le_refl _) dX3_coreOf_154 (fun v154 M' h hv154 hT => ?_)
                            obtain ⟨hv154, rfl⟩ := hv154
                            have e154 : v154 = lit (M 1) (M 7 (iab (M 9 k))) i := hv154
                            subst e154
                            refine s_callI F (ct_X3_size l G KS (a := lit (M 1) (M 7 (iab (M 9 k))) i) (by unfold rg; omega)) (by decide) (by decide) (lw_S q1591 q1592 q110 q1593) pd_X3_size rfl (Nat.le_of_ble_eq_true rfl) (Nat.le_refl _) (Nat.le_refl _) dX3_coreOf_157 (fun v157 hv157 => ?_)
                            subst hv157
                            refine j_iconst F dX3_coreOf_160 ?_
                            refine t_zast F hT 12 tm_12 rfl (by omega) (by omega) dX3_coreOf_161 (fun h hT => ?_)
                            refine j_iinc F rfl (by decide) dX3_coreOf_162 ?_
                            refine j_goto F 113 (by decide) dX3_coreOf_165 ?_
                            refine j_lv (lv' := [(0, .ref x), (1, vI a), (2, vI s), (3, vI k), (4, vI (iab (M 9 k))), (5, vI (i + 1))]) ⟨rfl, rfl, rfl, rfl, rfl, rfl, trivial⟩ ?_
                            exact ih113 (i + 1) _ _ ⟨by omega, by rw [if_neg c121, if_neg c121, oM_sM, mkF_s hK0], fun q => by omega⟩ (by omega) hT
                    refine j_lv (lv' := [(0, .ref x), (1, vI a), (2, vI s), (3, vI k), (4, vI (iab (M 9 k))), (5, vI 0)]) ⟨rfl, rfl, rfl, rfl, rfl, rfl, trivial⟩ ?_
                    exact L113 _ 0 _ _ ⟨by omega, by split <;> rfl, fun q => by have := hR.cl (c := M 7 (iab (M 9 k))) (by omega) (by omega); omega⟩ (Nat.lt_succ_self _) hT
                  · skip
                    rw [if_pos (show M 7 (iab (M 9 k)) = -1 ∧ 0 < M 6 (iab (M 9 k)) by omega)] at hI3
                    refine j_iload_n F rfl dX3_coreOf_99 ?_
                    refine j_iconst F dX3_coreOf_100 ?_
                    refine j_aload_n F rfl dX3_coreOf_101 ?_
                    refine j_iload F rfl dX3_coreOf_102 ?_
                    refine t_callI F hT (ct_X3_placeAssumed l G KS x _ (a := iab (M 9 k)) (by unfold rg; omega) hR ⟨hTR.1, hTR.2.1, hTR.2.2.1, hTR.2.2.2.1, hTR.2.2.2.2.1, hTR.2.2.2.2.2.1, hTR.2.2.2.2.2.2.1, hI2, hTR.2.2.2.2.2.2.2.2⟩) (by decide) (by decide) (lw_V q1740 q1742 qs78 q110 q1743) pd_X3_placeAssumed rfl (Nat.le_of_ble_eq_true rfl) (Nat.le_refl _) (Nat.le_refl _) dX3_coreOf_104 (fun v104 M' h hv104 hT => ?_)
                    obtain ⟨hv104, rfl⟩ := hv104
                    have e104 : v104 = lst (fun q => iab (M 1 (16 + q)) = iab (M 9 k)) (M 1 3) := hv104
                    subst e104
                    refine j_ishl F _ (shl9_e _ _) dX3_coreOf_107 ?_
                    refine j_ior F _ (ior9_e _ _) dX3_coreOf_108 ?_
                    refine j_istore_n F (by decide) dX3_coreOf_109 ?_
                    skip
                    refine j_iconst F dX3_coreOf_110 ?_
                    refine j_istore F (by decide) dX3_coreOf_111 ?_
                    have L113 : ∀ (m113 : Nat) (i : Int) (N6 : Mt) (h : Hp), (0 ≤ i ∧ N6 = sM M 12 (if M 7 (iab (M 9 k)) = -1 then f else mkF (M 1) (M 7 (iab (M 9 k))) i.toNat f) ∧ (M 7 (iab (M 9 k)) ≠ -1 → i ≤ siz (M 1) (M 7 (iab (M 9 k))))) → (siz (M 1) (M 7 (iab (M 9 k))) - i).toNat < m113 → Tw G x N6 h0 h → J X h 113 [(0, .ref x), (1, vI a), (2, vI (ior9 s (shl9 1 (lst (fun q => iab (M 1 (16 + q)) = iab (M 9 k)) (M 1 3))))), (3, vI k), (4, vI (iab (M 9 k))), (5, vI i)] [] 0 0 := by
                      intro m113
                      induction m113 with
                      | zero => intro i N6 h hI hm113 hT; exact absurd hm113 (Nat.not_lt_zero _)
                      | succ m113 ih113 =>
                        intro i N6 h hI hm113 hT
                        obtain ⟨hK0, hK1, hK2⟩ := hI
                        subst hK1
                        refine j_aload_n F rfl dX3_coreOf_113 ?_
                        refine t_get F hT 7 (by decide) rfl q1493 dX3_coreOf_114 ?_
                        refine j_iload F rfl dX3_coreOf_117 ?_
                        refine t_ialdw F hT 7 tm_7 (M 7 (iab (M 9 k))) rfl (by omega) dX3_coreOf_119 ?_
                        refine j_iconst F dX3_coreOf_120 ?_
                        refine j_icmp_eq F 168 (by decide) (by omega) (by omega) dX3_coreOf_121 (fun c121 => ?_) (fun c121 => ?_)
                        · skip
                          refine j_iinc F rfl (by decide) dX3_coreOf_168 ?_
                          refine j_goto F 50 (by decide) dX3_coreOf_171 ?_
                          refine j_lv (lv' := [(0, .ref x), (1, vI a), (2, vI (ior9 s (shl9 1 (lst (fun q => iab (M 1 (16 + q)) = iab (M 9 k)) (M 1 3))))), (3, vI (k - 1))]) ⟨rfl, rfl, rfl, rfl, trivial⟩ ?_
                          exact ih50 (k - 1) (ior9 s (shl9 1 (lst (fun q => iab (M 1 (16 + q)) = iab (M 9 k)) (M 1 3)))) (if M 7 (iab (M 9 k)) = -1 then f else mkF (M 1) (M 7 (iab (M 9 k))) i.toNat f) _ _ ⟨by omega, by omega, by first | (rw [if_pos (show M 7 (iab (M 9 k)) = -1 by omega)]; exact hI2) | (rw [if_neg (show ¬ M 7 (iab (M 9 k)) = -1 by omega)]; exact mkF_01 hI2 _), by rw [show k - 1 + 1 = k by omega, ← hI3]; first | rw [if_pos (show M 7 (iab (M 9 k)) = -1 by omega), if_pos (show M 7 (iab (M 9 k)) = -1 by omega)] | rw [if_neg (show ¬ M 7 (iab (M 9 k)) = -1 by omega), if_neg (show ¬ M 7 (iab (M 9 k)) = -1 by omega), show siz (M 1) (M 7 (iab (M 9 k))) = i by omega], rfl⟩ (by omega) hT
                        · skip
                          refine j_iload F rfl dX3_coreOf_124 ?_
                          refine j_aload_n F rfl dX3_coreOf_126 ?_
                          refine j_aload_n F rfl dX3_coreOf_127 ?_
                          refine t_get F hT 7 (by decide) rfl q1493 dX3_coreOf_128 ?_
                          refine j_iload F rfl dX3_coreOf_131 ?_
                          refine t_ialdw F hT 7 tm_7 (M 7 (iab (M 9 k))) rfl (by omega) dX3_coreOf_133 ?_
                          refine t_callI F hT (ct_X3_sizeOf l G KS x _ (c := M 7 (iab (M 9 k))) (by omega)) (by decide) (by decide) (lw_V q1641 q1643 qs57 q110 q1644) pd_X3_sizeOf rfl (Nat.le_of_ble_eq_true rfl) (Nat.le_refl _) (Nat.le_refl _) dX3_coreOf_134 (fun v134 M' h hv134 hT => ?_)
                          obtain ⟨hv134, rfl⟩ := hv134
                          have e134 : v134 = siz (M 1) (M 7 (iab (M 9 k))) := hv134
                          subst e134
                          refine j_icmp_ge F 168 (by decide) (by have := hR.cl (c := M 7 (iab (M 9 k))) (by omega) (by omega); omega) (by have := hR.cl (c := M 7 (iab (M 9 k))) (by omega) (by omega); omega) dX3_coreOf_137 (fun c137 => ?_) (fun c137 => ?_)
                          · skip
                            refine j_iinc F rfl (by decide) dX3_coreOf_168 ?_
                            refine j_goto F 50 (by decide) dX3_coreOf_171 ?_
                            refine j_lv (lv' := [(0, .ref x), (1, vI a), (2, vI (ior9 s (shl9 1 (lst (fun q => iab (M 1 (16 + q)) = iab (M 9 k)) (M 1 3))))), (3, vI (k - 1))]) ⟨rfl, rfl, rfl, rfl, trivial⟩ ?_
                            exact ih50 (k - 1) (ior9 s (shl9 1 (lst (fun q => iab (M 1 (16 + q)) = iab (M 9 k)) (M 1 3)))) (if M 7 (iab (M 9 k)) = -1 then f else mkF (M 1) (M 7 (iab (M 9 k))) i.toNat f) _ _ ⟨by omega, by omega, by first | (rw [if_pos (show M 7 (iab (M 9 k)) = -1 by omega)]; exact hI2) | (rw [if_neg (show ¬ M 7 (iab (M 9 k)) = -1 by omega)]; exact mkF_01 hI2 _), by rw [show k - 1 + 1 = k by omega, ← hI3]; first | rw [if_pos (show M 7 (iab (M 9 k)) = -1 by omega), if_pos (show M 7 (iab (M 9 k)) = -1 by omega)] | rw [if_neg (show ¬ M 7 (iab (M 9 k)) = -1 by omega), if_neg (show ¬ M 7 (iab (M 9 k)) = -1 by omega), show siz (M 1) (M 7 (iab (M 9 k))) = i by omega], rfl⟩ (by omega) hT
                          · skip
                            have hcl := hR.cl (c := M 7 (iab (M 9 k))) (by omega) (by omega)
                            have hll := (hR.ll (c := M 7 (iab (M 9 k))) (k := i) (by omega) (by omega) hK0 (by omega)).2
                            have hli := iab_rg hll
                            refine j_aload_n F rfl dX3_coreOf_140 ?_
                            refine t_get F hT 12 (by decide) rfl q1498 dX3_coreOf_141 ?_
                            refine j_aload_n F rfl dX3_coreOf_144 ?_
                            refine j_aload_n F rfl dX3_coreOf_145 ?_
                            refine t_get F hT 7 (by decide) rfl q1493 dX3_coreOf_146 ?_
                            refine j_iload F rfl dX3_coreOf_149 ?_
                            refine t_ialdw F hT 7 tm_7 (M 7 (iab (M 9 k))) rfl (by omega) dX3_coreOf_151 ?_
                            refine j_iload F rfl dX3_coreOf_152 ?_
                            refine t_callI F hT (ct_X3_literal l G KS x _ (c := M 7 (iab (M 9 k))) (k := i) (by omega) (by omega)) (by decide) (by decide) (lw_V q1685 q1687 qs65 q110 q1688) pd_X3_literal rfl (Nat.le_of_ble_eq_true rfl) (Nat.le_refl _) (Nat.le_refl _) dX3_coreOf_154 (fun v154 M' h hv154 hT => ?_)
                            obtain ⟨hv154, rfl⟩ := hv154
                            have e154 : v154 = lit (M 1) (M 7 (iab (M 9 k))) i := hv154
                            subst e154
                            refine s_callI F (ct_X3_size l G KS (a := lit (M 1) (M 7 (iab (M 9 k))) i) (by unfold rg; omega)) (by decide) (by decide) (lw_S q1591 q1592 q110 q1593) pd_X3_size rfl (Nat.le_of_ble_eq_true rfl) (Nat.le_refl _) (Nat.le_refl _) dX3_coreOf_157 (fun v157 hv157 => ?_)
                            subst hv157
                            refine j_iconst F dX3_coreOf_160 ?_
                            refine t_zast F hT 12 tm_12 rfl (by omega) (by omega) dX3_coreOf_161 (fun h hT => ?_)
                            refine j_iinc F rfl (by decide) dX3_coreOf_162 ?_
                            refine j_goto F 113 (by decide) dX3_coreOf_165 ?_
                            refine j_lv (lv' := [(0, .ref x), (1, vI a), (2, vI (ior9 s (shl9 1 (lst (fun q => iab (M 1 (16 + q)) = iab (M 9 k)) (M 1 3))))), (3, vI k), (4, vI (iab (M 9 k))), (5, vI (i + 1))]) ⟨rfl, rfl, rfl, rfl, rfl, rfl, trivial⟩ ?_
                            exact ih113 (i + 1) _ _ ⟨by omega, by rw [if_neg c121, if_neg c121, oM_sM, mkF_s hK0], fun q => by omega⟩ (by omega) hT
                    refine j_lv (lv' := [(0, .ref x), (1, vI a), (2, vI (ior9 s (shl9 1 (lst (fun q => iab (M 1 (16 + q)) = iab (M 9 k)) (M 1 3))))), (3, vI k), (4, vI (iab (M 9 k))), (5, vI 0)]) ⟨rfl, rfl, rfl, rfl, rfl, rfl, trivial⟩ ?_
                    exact L113 _ 0 _ _ ⟨by omega, by split <;> rfl, fun q => by have := hR.cl (c := M 7 (iab (M 9 k))) (by omega) (by omega); omega⟩ (Nat.lt_succ_self _) hT
              · skip
                refine j_goto F 168 (by decide) dX3_coreOf_75 ?_
                refine j_iinc F rfl (by decide) dX3_coreOf_168 ?_
                refine j_goto F 50 (by decide) dX3_coreOf_171 ?_
                refine j_lv (lv' := [(0, .ref x), (1, vI a), (2, vI s), (3, vI (k - 1))]) ⟨rfl, rfl, rfl, rfl, trivial⟩ ?_
                exact ih50 (k - 1) s f _ _ ⟨by omega, by omega, hI2, by rw [show k - 1 + 1 = k by omega, ← hI3, if_pos c72], rfl⟩ (by omega) hT
        refine j_lv (lv' := [(0, .ref x), (1, vI a), (2, vI (shl9 1 a)), (3, vI (M 10 0 - 1))]) ⟨rfl, rfl, rfl, rfl, trivial⟩ ?_
        exact L50 _ (M 10 0 - 1) (shl9 1 a) (one9 (M 12) (iab (M 1 (16 + a)))) _ _ ⟨by omega, by omega, one9_01 _ _, by rw [show M 10 0 - 1 + 1 = M 10 0 by omega], by rw [oM_sM, show i = 31 by omega]; rfl⟩ (Nat.lt_succ_self _) hT
      · skip
        refine j_aload_n F rfl dX3_coreOf_8 ?_
        refine t_get F hT 12 (by decide) rfl q1498 dX3_coreOf_9 ?_
        refine j_iload_n F rfl dX3_coreOf_12 ?_
        refine j_iconst F dX3_coreOf_13 ?_
        refine t_zast F hT 12 tm_12 rfl (by omega) (by omega) dX3_coreOf_14 (fun h hT => ?_)
        refine j_iinc F rfl (by decide) dX3_coreOf_15 ?_
        refine j_goto F 2 (by decide) dX3_coreOf_18 ?_
        refine j_lv (lv' := [(0, .ref x), (1, vI a), (2, vI (i + 1))]) ⟨rfl, rfl, rfl, trivial⟩ ?_
        exact ih2 (i + 1) _ _ ⟨by omega, by omega, by rw [oM_sM, clr_s hJ0]⟩ (by omega) hT
  refine j_lv (lv' := [(0, .ref x), (1, vI a), (2, vI 0)]) ⟨rfl, rfl, rfl, trivial⟩ ?_
  exact L2 _ 0 _ _ ⟨by omega, by omega, by rw [show (fun v : Int => if 0 ≤ v ∧ v < 0 then 0 else M 12 v) = M 12 from funext fun v => if_neg (by omega)]; exact (sM_self M 12).symm⟩ (Nat.lt_succ_self _) hT
