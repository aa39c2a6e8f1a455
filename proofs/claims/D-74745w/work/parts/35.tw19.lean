theorem lst_rg (p : Int → Prop) {n : Int} (h : 0 ≤ n) : -1 ≤ lst p n ∧ lst p n ≤ n := by
  rcases lst_cases p n with q | q <;> omega
theorem fst9_rg (R s : Int → Int) (m : Int) (h : 0 ≤ R 1) : -1 ≤ fst9 R s m ∧ fst9 R s m ≤ R 1 := lst_rg _ h
theorem lst_cg {p q : Int → Prop} {n : Int} (h : ∀ c : Int, 0 ≤ c → c < n → (p c ↔ q c)) : lst p n = lst q n := by
  rcases lst_cases p n with z | z
  · rw [z.1]
    exact (lst_none (fun c c0 c1 hq => z.2 c c0 c1 ((h c c0 c1).mpr hq))).symm
  · exact (lst_at z.1 z.2.1 ((h _ z.1 z.2.1).mp z.2.2.1) (fun d d0 d1 hq => z.2.2.2 d d0 d1 ((h d d0 (by omega)).mpr hq))).symm
theorem opo_rq {R R' : Int → Int} (h : Rq R R') (s : Int → Int) {c : Int} (hc : 0 ≤ c) : opo R' s c = opo R s c := by
  unfold opo
  have e : lst (fun k => trv s (lit R' c k) = 0) (siz R' c) = lst (fun k => trv s (lit R c k) = 0) (siz R c) := by
    rw [h.siz hc]
    exact lst_cg (fun k k0 k1 => by rw [h.lit hc k0])
  rw [e]
  by_cases q : lst (fun k => trv s (lit R c k) = 0) (siz R c) = -1
  · rw [cif_t q, cif_t q]
  · rw [cif_f q, cif_f q]
    rcases lst_cases (fun k => trv s (lit R c k) = 0) (siz R c) with z | z
    · exact absurd z.1 q
    · exact h.lit hc z.1
theorem coF_01 {M : Mt} : ∀ (n : Nat) (f : Int → Int) (s : Int), b01 f → b01 (coF M n f s).1
  | 0, f, s, h => h
  | n + 1, f, s, h => by
    unfold coF
    split
    · exact coF_01 n f s h
    · refine coF_01 n _ _ ?_
      split
      · exact h
      · exact mkF_01 h _
theorem TK.emp {M : Mt} (hV : 0 ≤ M 1 0 ∧ M 1 0 ≤ 30) : TK (empM M) := by
  have e10 : empM M 10 0 = 0 := rfl
  have e11 : empM M 11 0 = 0 := rfl
  refine ⟨⟨T0.emp hV, fun p p0 p1 => ?_, fun p q p0 pq q1 => ?_, fun p p0 p1 => ?_⟩, by rw [e10, e11]; omega, fun p p0 p1 => ?_, fun j j0 j1 => ?_⟩
  · rw [e10] at p1; omega
  · rw [e10] at q1; omega
  · rw [e10] at p1; omega
  · rw [e10] at p1; omega
  · rw [e11] at j1; omega
def s0M (M : Mt) : Mt := oM (oM (oM (oM (empM (oM M 0 0 0)) 15 0 0) 16 0 0) 17 0 0) 1 13 (-1)
theorem s0_ok {M : Mt} (hR : RI (M 1)) (hT : TR M) {bud : Int} (hb : 1 ≤ bud) : SI9 (s0M M) bud := by
  have hV := hR.V
  have h1 : TK (oM (oM (oM (empM (oM M 0 0 0)) 15 0 0) 16 0 0) 17 0 0) := (((TK.emp (M := oM M 0 0 0) hV).aux 0 0 (by decide)).aux 0 0 (by decide)).aux 0 0 (by decide)
  have hT0 : TR (oM M 0 0 0) := hT
  refine ⟨h1.cnt9 hR _ (by omega), hR.cnt9 (-1) (j := 13) (by omega), ((((TR.emp hT0).aux 0 0 (by decide)).aux 0 0 (by decide)).aux 0 0 (by decide)).row1 13 _, ?_, ?_, ?_⟩
  · show 0 ≤ (0 : Int) ∧ (0 : Int) < bud
    omega
  · show 0 ≤ (0 : Int) ∧ (0 : Int) ≤ 0
    omega
  · show 0 ≤ (0 : Int) ∧ (0 : Int) ≤ 0
    omega
theorem spM_rg (M : Mt) (bud : Int) : -1 ≤ (spM M bud).1 ∧ (spM M bud).1 ≤ 3 := by
  unfold spM cfM
  (repeat' split) <;> simp
noncomputable def spN (M : Mt) (bud : Int) : Nat → Int × Mt
  | 0 => (-1, M)
  | n + 1 => spM (spN M bud n).2 bud
noncomputable def slM (M : Mt) (bud : Int) : Int × Mt := if ¬ (1 ≤ bud ∧ bud ≤ 200) then (-1, oM M 0 0 0) else if M 1 7 = 1 then (0, enM (rfM (s0M M)) 0) else spN (s0M M) bud (lea (fun n => (spN (s0M M) bud n).1 ≠ -1))
theorem spN_rg (M : Mt) (bud : Int) : ∀ n : Nat, -1 ≤ (spN M bud n).1 ∧ (spN M bud n).1 ≤ 3
  | 0 => by simp [spN]
  | n + 1 => spM_rg _ _
theorem pd_X3_conflictAt : yX3_conflictAt.cls = RX3 ∧ yX3_conflictAt.cls ≠ "java/lang/invoke/MethodHandle" ∧ yX3_conflictAt.cls ≠ "java/lang/invoke/VarHandle" ∧ (parseMethodDescriptor yX3_conflictAt.desc).map (fun d => d.parameters.length) = some 2 := by decide +kernel
theorem ct_X3_conflictAt (l : Launch) (G : Gt) (KS : Ks l G) (x : Nat) (M : Mt) {c bud : Int} (hS : SI9 M bud) (hbud : bud ≤ 200) (hc0 : 0 ≤ c) (hc1 : c < M 1 1) (hf : ¬ 2 ≤ flg (M 1) c) (ho : opn (M 1) (M 5) c = 0) : TI l G yX3_conflictAt cX3_conflictAt 3 (some FieldType.int) 10 x [vI c, vI bud] M (fun v M' => v = (cfM M c bud).1 ∧ M' = (cfM M c bud).2) := by
  intro h0 h hT
  refine ct_of KS (by decide) (Nat.le_of_ble_eq_true rfl) (fun X F E => ?_)
  refine j_lv (lv' := [(0, .ref x), (1, vI c), (2, vI bud)]) ⟨rfl, rfl, rfl, trivial⟩ ?_
  have hS' := hS
  obtain ⟨hK, hR, hTR, h15, h16, h17⟩ := hS
  have hmy := hR.many
  have hV := hR.V
  have hlv := hTR.lvl
  refine j_aload_n F rfl dX3_conflictAt_0 ?_
  refine t_get F hT 11 (by decide) rfl q1497 dX3_conflictAt_1 ?_
  refine j_if_ne F 12 (by decide) (by omega) dX3_conflictAt_4 (fun c4 => ?_) (fun c4 => ?_)
  · skip
    refine j_aload_n F rfl dX3_conflictAt_12 ?_
    refine t_get F hT 1 (by decide) rfl q1487 dX3_conflictAt_13 ?_
    refine j_iconst F dX3_conflictAt_16 ?_
    refine t_iald F hT 1 tm_1 (by omega) dX3_conflictAt_17 ?_
    refine j_sipush F (by decide) dX3_conflictAt_18 ?_
    refine j_icmp_ne F 30 (by decide) (by omega) (by omega) dX3_conflictAt_21 (fun c21 => ?_) (fun c21 => ?_)
    · skip
      obtain ⟨y1, y2, y3, y4, y5, y6, b1, b2, b3, b4, b5, b6⟩ := hS'.cf hc0 hc1 hf ho c4 c21
      refine j_aload_n F rfl dX3_conflictAt_30 ?_
      refine j_iload_n F rfl dX3_conflictAt_31 ?_
      refine t_callV F hT (ct_X3_learns l G KS x M hK hR hTR hc0 hc1 hf ho (by omega) (by omega)) (by decide) (by decide) (lw_V q1697 q1699 qs68 q110 q1700) pd_X3_learns rfl (Nat.le_of_ble_eq_true rfl) (Nat.le_refl _) (Nat.le_refl _) dX3_conflictAt_32 (fun M32 h hv32 hT => ?_)
      subst hv32
      refine j_aload_n F rfl dX3_conflictAt_35 ?_
      refine j_dup F rfl dX3_conflictAt_36 ?_
      refine t_get F hT 15 (by decide) (v := vI (M 15 0)) (by show some (vI (lrnM M c 15 0)) = _; rw [y4]) q1501 dX3_conflictAt_37 ?_
      refine j_iconst F dX3_conflictAt_40 ?_
      refine j_iadd F dX3_conflictAt_41 ?_
      refine t_put F hT 15 (by decide) rfl rfl rfl (by decide) q1501 dX3_conflictAt_42 (fun h hT => ?_)
      refine j_aload_n F rfl dX3_conflictAt_45 ?_
      refine t_callV F hT (ct_X3_startsAnew l G KS x _ y2 (y3.aux 0 _ (by decide)) (by show 0 ≤ lrnM M c 16 0 ∧ lrnM M c 16 0 ≤ 1000; rw [y5]; omega) (by show 0 ≤ lrnM M c 17 0 ∧ lrnM M c 17 0 ≤ 200; rw [y6]; omega)) (by decide) (by decide) (lw_V q1721 q1723 qs74 q110 q1724) pd_X3_startsAnew rfl (Nat.le_of_ble_eq_true rfl) (Nat.le_refl _) (Nat.le_refl _) dX3_conflictAt_46 (fun M46 h hv46 hT => ?_)
      have hcf : M46 = cfN M c := hv46
      subst hcf
      refine j_aload_n F rfl dX3_conflictAt_49 ?_
      refine t_get F hT 15 (by decide) (v := vI (M 15 0 + 1)) (by show some (vI (cfN M c 15 0)) = _; rw [b4]) q1501 dX3_conflictAt_50 ?_
      refine j_iload_n F rfl dX3_conflictAt_53 ?_
      refine j_icmp_ne F 65 (by decide) (by omega) (by omega) dX3_conflictAt_54 (fun c54 => ?_) (fun c54 => ?_)
      · skip
        refine j_iconst F dX3_conflictAt_65 ?_
        exact j_iret F E (Nat.zero_le _) (Nat.zero_le _) dX3_conflictAt_66 (ti_post hT (by unfold cfM; rw [if_neg c4, if_neg c21, if_neg c54]; exact ⟨rfl, rfl⟩))
      · skip
        refine j_aload_n F rfl dX3_conflictAt_57 ?_
        refine j_iconst F dX3_conflictAt_58 ?_
        refine t_callI F hT (ct_X3_ends l G KS x _ (a := 2) (by unfold rg; omega) b2 b3) (by decide) (by decide) (lw_V q1665 q1667 qs60 q110 q1668) pd_X3_ends rfl (Nat.le_of_ble_eq_true rfl) (Nat.le_refl _) (Nat.le_refl _) dX3_conflictAt_59 (fun v59 M59 h hv59 hT => ?_)
        refine j_goto F 66 (by decide) dX3_conflictAt_62 ?_
        exact j_iret F E (Nat.zero_le _) (Nat.zero_le _) dX3_conflictAt_66 (ti_post hT (by unfold cfM; rw [if_neg c4, if_neg c21, if_pos c54]; exact hv59))
    · skip
      refine j_aload_n F rfl dX3_conflictAt_24 ?_
      refine j_iconst F dX3_conflictAt_25 ?_
      refine t_callI F hT (ct_X3_ends l G KS x M (a := 3) (by unfold rg; omega) hR hTR) (by decide) (by decide) (lw_V q1665 q1667 qs60 q110 q1668) pd_X3_ends rfl (Nat.le_of_ble_eq_true rfl) (Nat.le_refl _) (Nat.le_refl _) dX3_conflictAt_26 (fun v26 M26 h hv26 hT => ?_)
      exact j_iret F E (Nat.zero_le _) (Nat.zero_le _) dX3_conflictAt_29 (ti_post hT (by unfold cfM; rw [if_neg c4, if_pos c21]; exact hv26))
  · skip
    refine j_aload_n F rfl dX3_conflictAt_7 ?_
    refine t_callI F hT (ct_X3_refuted l G KS x M hR hTR) (by decide) (by decide) (lw_V q1661 q1663 qs59 q110 q1664) pd_X3_refuted rfl (Nat.le_of_ble_eq_true rfl) (Nat.le_refl _) (Nat.le_refl _) dX3_conflictAt_8 (fun v8 M8 h hv8 hT => ?_)
    exact j_iret F E (Nat.zero_le _) (Nat.zero_le _) dX3_conflictAt_11 (ti_post hT (by unfold cfM; rw [if_pos c4]; exact hv8))

theorem pd_X3_step : yX3_step.cls = RX3 ∧ yX3_step.cls ≠ "java/lang/invoke/MethodHandle" ∧ yX3_step.cls ≠ "java/lang/invoke/VarHandle" ∧ (parseMethodDescriptor yX3_step.desc).map (fun d => d.parameters.length) = some 1 := by decide +kernel
theorem ct_X3_step (l : Launch) (G : Gt) (KS : Ks l G) (x : Nat) (M : Mt) {bud : Int} (hS : SI9 M bud) (hbud : bud ≤ 200) : TI l G yX3_step cX3_step 5 (some FieldType.int) 11 x [vI bud] M (fun v M' => v = (spM M bud).1 ∧ M' = (spM M bud).2) := by
  intro h0 h hT
  refine ct_of KS (by decide) (Nat.le_of_ble_eq_true rfl) (fun X F E => ?_)
  refine j_lv (lv' := [(0, .ref x), (1, vI bud)]) ⟨rfl, rfl, trivial⟩ ?_
  have hS' := hS
  obtain ⟨hK, hR, hTR, h15, h16, h17⟩ := hS
  have hmy := hR.many
  have hV := hR.V
  have hlv := hTR.lvl
  have hfa := fst9_rg (M 1) (M 5) 0 hmy.1
  have hfb := fst9_rg (M 1) (M 5) 1 hmy.1
  have has := hR.as
  have hak := lst_rg (fun k => trv (M 5) (M 1 (16 + k)) ≤ 0) has.1
  have hak' : -1 ≤ asK M ∧ asK M ≤ M 1 3 := hak
  have hbe := beF_rg (M 1) (M 5) (M 1 0).toNat
  have hbe' : 0 ≤ beV M ∧ beV M ≤ 30 := by unfold beV; omega
  have htd := hTR.trd
  refine j_aload_n F rfl dX3_step_0 ?_
  refine j_iconst F dX3_step_1 ?_
  refine t_callI F hT (ct_X3_firstOf l G KS x M (a := 0) hR hTR.s (by omega)) (by decide) (by decide) (lw_V q1677 q1679 qs63 q110 q1680) pd_X3_firstOf rfl (Nat.le_of_ble_eq_true rfl) (Nat.le_refl _) (Nat.le_refl _) dX3_step_2 (fun v2 M' h hv2 hT => ?_)
  obtain ⟨hv2, rfl⟩ := hv2
  subst hv2
  refine j_istore_n F (by decide) dX3_step_5 ?_
  refine j_iload_n F rfl dX3_step_6 ?_
  refine j_iconst F dX3_step_7 ?_
  refine j_icmp_eq F 18 (by decide) (by omega) (by omega) dX3_step_8 (fun c8 => ?_) (fun c8 => ?_)
  · skip
    refine j_aload_n F rfl dX3_step_18 ?_
    refine j_iconst F dX3_step_19 ?_
    refine t_callI F hT (ct_X3_firstOf l G KS x M (a := 1) hR hTR.s (by omega)) (by decide) (by decide) (lw_V q1677 q1679 qs63 q110 q1680) pd_X3_firstOf rfl (Nat.le_of_ble_eq_true rfl) (Nat.le_refl _) (Nat.le_refl _) dX3_step_20 (fun v20 M' h hv20 hT => ?_)
    obtain ⟨hv20, rfl⟩ := hv20
    subst hv20
    refine j_istore_n F (by decide) dX3_step_23 ?_
    refine j_iload_n F rfl dX3_step_24 ?_
    refine j_iconst F dX3_step_25 ?_
    refine j_icmp_eq F 52 (by decide) (by omega) (by omega) dX3_step_26 (fun c26 => ?_) (fun c26 => ?_)
    · skip
      refine j_aload_n F rfl dX3_step_52 ?_
      refine t_callI F hT (ct_X3_assumptionOpen l G KS x M hR hTR) (by decide) (by decide) (lw_V q1732 q1734 qs76 q110 q1735) pd_X3_assumptionOpen rfl (Nat.le_of_ble_eq_true rfl) (Nat.le_refl _) (Nat.le_refl _) dX3_step_53 (fun v53 M' h hv53 hT => ?_)
      obtain ⟨hv53, rfl⟩ := hv53
      have e53 : v53 = asK M := hv53
      subst e53
      refine j_istore_n F (by decide) dX3_step_56 ?_
      refine j_iload_n F rfl dX3_step_57 ?_
      refine j_iconst F dX3_step_58 ?_
      refine j_icmp_eq F 122 (by decide) (by omega) (by omega) dX3_step_59 (fun c59 => ?_) (fun c59 => ?_)
      · skip
        refine j_aload_n F rfl dX3_step_122 ?_
        refine t_callI F hT (ct_X3_choice l G KS x M hR hTR) (by decide) (by decide) (lw_V q1744 q1746 qs79 q110 q1747) pd_X3_choice rfl (Nat.le_of_ble_eq_true rfl) (Nat.le_refl _) (Nat.le_refl _) dX3_step_123 (fun v123 M' h hv123 hT => ?_)
        obtain ⟨hv123, rfl⟩ := hv123
        have e123 : v123 = beV M := hv123
        subst e123
        refine j_istore F (by decide) dX3_step_126 ?_
        refine j_iload F rfl dX3_step_128 ?_
        refine j_if_ne F 139 (by decide) (by omega) dX3_step_130 (fun c130 => ?_) (fun c130 => ?_)
        · skip
          obtain ⟨b1, b2⟩ := be_ok hR c130
          have hlt := hK.1.1.lt hV.1 b1.1 b1.2 b2
          have hph := hR.ph (v := beV M) (by omega) (by omega)
          refine j_aload_n F rfl dX3_step_139 ?_
          refine j_dup F rfl dX3_step_140 ?_
          refine t_get F hT 11 (by decide) rfl q1497 dX3_step_141 ?_
          refine j_iconst F dX3_step_144 ?_
          refine j_iadd F dX3_step_145 ?_
          refine t_put F hT 11 (by decide) rfl rfl rfl (by decide) q1497 dX3_step_146 (fun h hT => ?_)
          refine j_aload_n F rfl dX3_step_149 ?_
          refine t_get F hT 1 (by decide) rfl q1487 dX3_step_150 ?_
          refine j_bipush F (by decide) dX3_step_153 ?_
          refine j_dup2 F rfl rfl dX3_step_155 ?_
          refine t_ialdw F hT 1 tm_1 (M 1 9) rfl (by omega) dX3_step_156 ?_
          refine j_iconst F dX3_step_157 ?_
          refine j_iadd F dX3_step_158 ?_
          refine t_iast F hT 1 tm_1 rfl (by omega) dX3_step_159 (fun h hT => ?_)
          refine j_aload_n F rfl dX3_step_160 ?_
          refine j_joinT (x := x) (M := oM (oM M 11 0 (M 11 0 + 1)) 1 9 (M 1 9 + 1)) (G := G) (h0 := h0) 183 (fun w => w = if M 1 (32 + beV M) = 1 then beV M else -(beV M)) (fun w h hw hT => ?_) (fun Kj161 => ?_)
          · skip
            refine j_iconst F dX3_step_183 ?_
            refine t_callV F hT (ct_X3_comes l G KS x _ (a := w) (w := -1) (by unfold lok; split at hw <;> omega) (by show 0 ≤ M 10 0 ∧ M 10 0 < 30; omega)) (by decide) (by decide) (lw_V q1717 q1719 qs73 q110 q1720) pd_X3_comes rfl (Nat.le_of_ble_eq_true rfl) (Nat.le_refl _) (Nat.le_refl _) dX3_step_184 (fun M184 h hv184 hT => ?_)
            refine j_iconst F dX3_step_187 ?_
            exact j_iret F E (Nat.zero_le _) (Nat.zero_le _) dX3_step_188 (ti_post hT (by unfold spM; rw [if_neg (show ¬ (fst9 (M 1) (M 5) 0 ≠ -1) from fun q => q c8), if_neg (show ¬ (fst9 (M 1) (M 5) 1 ≠ -1) from fun q => q c26), if_neg (show ¬ (asK M ≠ -1) from fun q => q c59), if_neg c130, ← hw]; exact ⟨rfl, hv184⟩))
          · skip
            refine j_aload_n F rfl dX3_step_161 ?_
            refine t_get F hT 1 (by decide) rfl q1487 dX3_step_162 ?_
            refine j_bipush F (by decide) dX3_step_165 ?_
            refine j_iload F rfl dX3_step_167 ?_
            refine j_iadd F dX3_step_169 ?_
            refine t_ialdw F hT 1 tm_1 (M 1 (32 + beV M)) (by rw [oM_s]; exact oI_n _ _ (by omega)) (by omega) dX3_step_170 ?_
            refine j_iconst F dX3_step_171 ?_
            refine j_icmp_ne F 180 (by decide) (by omega) (by omega) dX3_step_172 (fun c172 => ?_) (fun c172 => ?_)
            · skip
              refine j_iload F rfl dX3_step_180 ?_
              refine j_ineg F dX3_step_182 ?_
              exact Kj161 _ _ (by first | rw [if_pos (by omega)] | rw [if_neg (by omega)]) hT
            · skip
              refine j_iload F rfl dX3_step_175 ?_
              refine j_goto F 183 (by decide) dX3_step_177 ?_
              exact Kj161 _ _ (by first | rw [if_pos (by omega)] | rw [if_neg (by omega)]) hT
        · skip
          refine j_aload_n F rfl dX3_step_133 ?_
          refine j_iconst F dX3_step_134 ?_
          refine t_callI F hT (ct_X3_ends l G KS x M (a := 1) (by unfold rg; omega) hR hTR) (by decide) (by decide) (lw_V q1665 q1667 qs60 q110 q1668) pd_X3_ends rfl (Nat.le_of_ble_eq_true rfl) (Nat.le_refl _) (Nat.le_refl _) dX3_step_135 (fun v135 M135 h hv135 hT => ?_)
          exact j_iret F E (Nat.zero_le _) (Nat.zero_le _) dX3_step_138 (ti_post hT (by unfold spM; rw [if_neg (show ¬ (fst9 (M 1) (M 5) 0 ≠ -1) from fun q => q c8), if_neg (show ¬ (fst9 (M 1) (M 5) 1 ≠ -1) from fun q => q c26), if_neg (show ¬ (asK M ≠ -1) from fun q => q c59), if_pos c130]; exact hv135))
      · skip
        obtain ⟨a0, a1, a2, a3⟩ := as_ok hR c59
        have hal := trv_rg hTR.s (l := M 1 (16 + asK M)) (by unfold lok at a3; omega)
        refine j_aload_n F rfl dX3_step_62 ?_
        refine j_aload_n F rfl dX3_step_63 ?_
        refine t_get F hT 1 (by decide) rfl q1487 dX3_step_64 ?_
        refine j_bipush F (by decide) dX3_step_67 ?_
        refine j_iload_n F rfl dX3_step_69 ?_
        refine j_iadd F dX3_step_70 ?_
        refine t_iald F hT 1 tm_1 (by omega) dX3_step_71 ?_
        refine t_callI F hT (ct_X3_truth l G KS x M (a := M 1 (16 + asK M)) (by unfold lok at a3; omega)) (by decide) (by decide) (lw_V q1689 q1691 qs66 q110 q1692) pd_X3_truth rfl (Nat.le_of_ble_eq_true rfl) (Nat.le_refl _) (Nat.le_refl _) dX3_step_72 (fun v72 M' h hv72 hT => ?_)
        obtain ⟨hv72, rfl⟩ := hv72
        subst hv72
        refine j_if_ge F 96 (by decide) (by omega) dX3_step_75 (fun c75 => ?_) (fun c75 => ?_)
        · skip
          have hz9 := trv_0 a3.1 (show trv (M 5) (M 1 (16 + asK M)) = 0 by omega)
          have hi9 := iab_lok a3
          have hlt := hK.1.1.lt hV.1 hi9.1 hi9.2 hz9
          refine j_aload_n F rfl dX3_step_96 ?_
          refine j_dup F rfl dX3_step_97 ?_
          refine t_get F hT 11 (by decide) rfl q1497 dX3_step_98 ?_
          refine j_iconst F dX3_step_101 ?_
          refine j_iadd F dX3_step_102 ?_
          refine t_put F hT 11 (by decide) rfl rfl rfl (by decide) q1497 dX3_step_103 (fun h hT => ?_)
          refine j_aload_n F rfl dX3_step_106 ?_
          refine j_aload_n F rfl dX3_step_107 ?_
          refine t_get F hT 1 (by decide) rfl q1487 dX3_step_108 ?_
          refine j_bipush F (by decide) dX3_step_111 ?_
          refine j_iload_n F rfl dX3_step_113 ?_
          refine j_iadd F dX3_step_114 ?_
          refine t_ialdw F hT 1 tm_1 (M 1 (16 + asK M)) rfl (by omega) dX3_step_115 ?_
          refine j_iconst F dX3_step_116 ?_
          refine t_callV F hT (ct_X3_comes l G KS x _ (a := M 1 (16 + asK M)) (w := -1) (by unfold lok at *; omega) (by show 0 ≤ M 10 0 ∧ M 10 0 < 30; omega)) (by decide) (by decide) (lw_V q1717 q1719 qs73 q110 q1720) pd_X3_comes rfl (Nat.le_of_ble_eq_true rfl) (Nat.le_refl _) (Nat.le_refl _) dX3_step_117 (fun M117 h hv117 hT => ?_)
          refine j_iconst F dX3_step_120 ?_
          exact j_iret F E (Nat.zero_le _) (Nat.zero_le _) dX3_step_121 (ti_post hT (by unfold spM; rw [if_neg (show ¬ (fst9 (M 1) (M 5) 0 ≠ -1) from fun q => q c8), if_neg (show ¬ (fst9 (M 1) (M 5) 1 ≠ -1) from fun q => q c26), if_pos c59, if_neg (by omega)]; exact ⟨rfl, hv117⟩))
        · skip
          refine j_aload_n F rfl dX3_step_78 ?_
          refine t_get F hT 1 (by decide) rfl q1487 dX3_step_79 ?_
          refine j_bipush F (by decide) dX3_step_82 ?_
          refine j_aload_n F rfl dX3_step_84 ?_
          refine j_iload_n F rfl dX3_step_85 ?_
          refine t_callI F hT (ct_X3_coreOf l G KS x M (a := asK M) hR hTR ⟨a0, a1⟩ (fun p p0 p1 => by rcases hK.1.2.2.2 p p0 p1 with z | z; exact Or.inl z.1; exact Or.inr ⟨z.1, z.2.1⟩)) (by decide) (by decide) (lw_V q1736 q1738 qs77 q110 q1739) pd_X3_coreOf rfl (Nat.le_of_ble_eq_true rfl) (Nat.le_refl _) (Nat.le_refl _) dX3_step_86 (fun v86 M86 h hv86 hT => ?_)
          obtain ⟨e86, q86⟩ := hv86
          have e86' : v86 = (coM M (asK M)).2 := e86
          have q86' : M86 = sM M 12 (coM M (asK M)).1 := q86
          subst e86' q86'
          refine t_iast F hT 1 tm_1 rfl (by omega) dX3_step_89 (fun h hT => ?_)
          refine j_aload_n F rfl dX3_step_90 ?_
          refine j_iconst F dX3_step_91 ?_
          refine t_callI F hT (ct_X3_ends l G KS x _ (a := 0) (by unfold rg; omega) (hR.cnt9 (coM M (asK M)).2 (j := 13) (by omega)) ((hTR.mark (N := sM M 12 (coM M (asK M)).1) (fun q a b d => sM_n _ _ a) (coF_01 _ _ _ (one9_01 _ _)) (fun v v0 v1 => hTR.t13 v0 v1) (fun v v0 v1 => hTR.t14 v0 v1)).row1 13 _)) (by decide) (by decide) (lw_V q1665 q1667 qs60 q110 q1668) pd_X3_ends rfl (Nat.le_of_ble_eq_true rfl) (Nat.le_refl _) (Nat.le_refl _) dX3_step_92 (fun v92 M92 h hv92 hT => ?_)
          exact j_iret F E (Nat.zero_le _) (Nat.zero_le _) dX3_step_95 (ti_post hT (by unfold spM; rw [if_neg (show ¬ (fst9 (M 1) (M 5) 0 ≠ -1) from fun q => q c8), if_neg (show ¬ (fst9 (M 1) (M 5) 1 ≠ -1) from fun q => q c26), if_pos c59, if_pos (by omega)]; exact hv92))
    · skip
      obtain ⟨o1, o2, o3, o4⟩ := fst9_ok c26
      have hq := Rq.cnt9 (M 1) (M 1 10 + 1) (j := 10) (by omega)
      obtain ⟨u1, u2, u3⟩ := hK.unit hR ⟨o1, o2⟩ o4
      have hi9 := iab_lok u1
      have hlt := hK.1.1.lt hV.1 hi9.1 hi9.2 u2
      refine j_aload_n F rfl dX3_step_29 ?_
      refine t_get F hT 1 (by decide) rfl q1487 dX3_step_30 ?_
      refine j_bipush F (by decide) dX3_step_33 ?_
      refine j_dup2 F rfl rfl dX3_step_35 ?_
      refine t_iald F hT 1 tm_1 (by omega) dX3_step_36 ?_
      refine j_iconst F dX3_step_37 ?_
      refine j_iadd F dX3_step_38 ?_
      refine t_iast F hT 1 tm_1 rfl (by omega) dX3_step_39 (fun h hT => ?_)
      refine j_aload_n F rfl dX3_step_40 ?_
      refine j_aload_n F rfl dX3_step_41 ?_
      refine j_iload_n F rfl dX3_step_42 ?_
      refine t_callI F hT (ct_X3_openOne l G KS x _ (c := fst9 (M 1) (M 5) 1) (hR.cnt9 (M 1 10 + 1) (j := 10) (by omega)) hTR.s ⟨o1, by rw [oM_s, oI_n _ _ (by omega)]; exact o2⟩) (by decide) (by decide) (lw_V q1728 q1730 qs75 q110 q1731) pd_X3_openOne rfl (Nat.le_of_ble_eq_true rfl) (Nat.le_refl _) (Nat.le_refl _) dX3_step_43 (fun v43 M' h hv43 hT => ?_)
      obtain ⟨hv43, rfl⟩ := hv43
      have e43 : v43 = opo (M 1) (M 5) (fst9 (M 1) (M 5) 1) := hv43.trans (opo_rq hq _ o1)
      subst e43
      refine j_iload_n F rfl dX3_step_46 ?_
      refine t_callV F hT (ct_X3_comes l G KS x _ (a := opo (M 1) (M 5) (fst9 (M 1) (M 5) 1)) (w := fst9 (M 1) (M 5) 1) (by unfold lok at *; omega) (by show 0 ≤ M 10 0 ∧ M 10 0 < 30; omega)) (by decide) (by decide) (lw_V q1717 q1719 qs73 q110 q1720) pd_X3_comes rfl (Nat.le_of_ble_eq_true rfl) (Nat.le_refl _) (Nat.le_refl _) dX3_step_47 (fun M47 h hv47 hT => ?_)
      refine j_iconst F dX3_step_50 ?_
      exact j_iret F E (Nat.zero_le _) (Nat.zero_le _) dX3_step_51 (ti_post hT (by unfold spM; rw [if_neg (show ¬ (fst9 (M 1) (M 5) 0 ≠ -1) from fun q => q c8), if_pos c26]; exact ⟨rfl, hv47⟩))
  · skip
    obtain ⟨o1, o2, o3, o4⟩ := fst9_ok c8
    refine j_aload_n F rfl dX3_step_11 ?_
    refine j_iload_n F rfl dX3_step_12 ?_
    refine j_iload_n F rfl dX3_step_13 ?_
    refine t_callI F hT (ct_X3_conflictAt l G KS x M hS' hbud o1 o2 o3 o4) (by decide) (by decide) (lw_V q1693 q1695 qs67 q110 q1696) pd_X3_conflictAt rfl (Nat.le_of_ble_eq_true rfl) (Nat.le_refl _) (Nat.le_refl _) dX3_step_14 (fun v14 M14 h hv14 hT => ?_)
    exact j_iret F E (Nat.zero_le _) (Nat.zero_le _) dX3_step_17 (ti_post hT (by unfold spM; rw [if_pos c8]; exact hv14))

theorem pd_X3_solve : yX3_solve.cls = RX3 ∧ yX3_solve.cls ≠ "java/lang/invoke/MethodHandle" ∧ yX3_solve.cls ≠ "java/lang/invoke/VarHandle" ∧ (parseMethodDescriptor yX3_solve.desc).map (fun d => d.parameters.length) = some 1 := by decide +kernel
theorem ct_X3_solve (l : Launch) (G : Gt) (KS : Ks l G) (x : Nat) (M : Mt) {bud : Int} (hb : rg bud) (hR : RI (M 1)) (hTR : TR M) : TI l G yX3_solve cX3_solve 3 (some FieldType.int) 12 x [vI bud] M (fun v M' => v = (slM M bud).1 ∧ M' = (slM M bud).2) := by
  intro h0 h hT
  refine ct_of KS (by decide) (Nat.le_of_ble_eq_true rfl) (fun X F E => ?_)
  refine j_lv (lv' := [(0, .ref x), (1, vI bud)]) ⟨rfl, rfl, trivial⟩ ?_
  have hb' := hb
  unfold rg at hb
  have hrf := hR.ref
  refine j_aload_n F rfl dX3_solve_0 ?_
  refine j_iconst F dX3_solve_1 ?_
  refine t_put F hT 0 (by decide) rfl rfl rfl (by decide) q1486 dX3_solve_2 (fun h hT => ?_)
  refine j_iload_n F rfl dX3_solve_5 ?_
  refine j_iconst F dX3_solve_6 ?_
  refine j_sipush F (by decide) dX3_solve_7 ?_
  refine s_callI F (ct_X3_isIn l G KS (a := bud) (b := 1) (c := 200) hb' (by unfold rg; omega) (by unfold rg; omega)) (by decide) (by decide) (lw_S q1598 q1599 q110 q1600) pd_X3_isIn rfl (Nat.le_of_ble_eq_true rfl) (Nat.le_refl _) (Nat.le_refl _) dX3_solve_10 (fun v10 hv10 => ?_)
  have z10 := z01 hv10
  refine j_if_ne F 18 (by decide) (by omega) dX3_solve_13 (fun c13 => ?_) (fun c13 => ?_)
  · skip
    have hbr : 1 ≤ bud ∧ bud ≤ 200 := by split at hv10 <;> omega
    have hS0 := s0_ok hR hTR hbr.1
    refine j_aload_n F rfl dX3_solve_18 ?_
    refine t_callV F hT (ct_X3_empties l G KS x _) (by decide) (by decide) (lw_V q1657 q1659 qs58 q110 q1660) pd_X3_empties rfl (Nat.le_of_ble_eq_true rfl) (Nat.le_refl _) (Nat.le_refl _) dX3_solve_19 (fun M19 h hv19 hT => ?_)
    subst hv19
    refine j_aload_n F rfl dX3_solve_22 ?_
    refine j_iconst F dX3_solve_23 ?_
    refine t_put F hT 15 (by decide) rfl rfl rfl (by decide) q1501 dX3_solve_24 (fun h hT => ?_)
    refine j_aload_n F rfl dX3_solve_27 ?_
    refine j_iconst F dX3_solve_28 ?_
    refine t_put F hT 16 (by decide) rfl rfl rfl (by decide) q1502 dX3_solve_29 (fun h hT => ?_)
    refine j_aload_n F rfl dX3_solve_32 ?_
    refine j_iconst F dX3_solve_33 ?_
    refine t_put F hT 17 (by decide) rfl rfl rfl (by decide) q1503 dX3_solve_34 (fun h hT => ?_)
    refine j_aload_n F rfl dX3_solve_37 ?_
    refine t_get F hT 1 (by decide) rfl q1487 dX3_solve_38 ?_
    refine j_bipush F (by decide) dX3_solve_41 ?_
    refine j_iconst F dX3_solve_43 ?_
    refine t_iast F hT 1 tm_1 rfl (by omega) dX3_solve_44 (fun h hT => ?_)
    refine j_aload_n F rfl dX3_solve_45 ?_
    refine t_get F hT 1 (by decide) rfl q1487 dX3_solve_46 ?_
    refine j_bipush F (by decide) dX3_solve_49 ?_
    refine t_ialdw F hT 1 tm_1 (M 1 7) (by rw [oM_s]; exact oI_n _ _ (by omega)) (by omega) dX3_solve_51 ?_
    refine j_iconst F dX3_solve_52 ?_
    refine j_icmp_ne F 61 (by decide) (by omega) (by omega) dX3_solve_53 (fun c53 => ?_) (fun c53 => ?_)
    · skip
      refine j_iconst F dX3_solve_61 ?_
      refine j_istore_n F (by decide) dX3_solve_62 ?_
      have L63 : ∀ (m63 : Nat) (n : Nat) (how : Int) (N : Mt) (h : Hp), ((∀ k : Nat, k < n → (spN (s0M M) bud k).1 = -1) ∧ how = (spN (s0M M) bud n).1 ∧ N = (spN (s0M M) bud n).2 ∧ (how = -1 → SI9 (spN (s0M M) bud n).2 bud)) → (if (spN (s0M M) bud n).1 = -1 then spU (spN (s0M M) bud n).2 bud + 1 else 0) < m63 → Tw G x N h0 h → J X h 63 [(0, .ref x), (1, vI bud), (2, vI how)] [] 0 0 := by
        intro m63
        induction m63 with
        | zero => intro n how N h hI hm63 hT; exact absurd hm63 (Nat.not_lt_zero _)
        | succ m63 ih63 =>
          intro n how N h hI hm63 hT
          obtain ⟨hI0, hI1, hI2, hI3⟩ := hI
          subst hI1 hI2
          have hrgn := spN_rg (s0M M) bud n
          refine j_iload_n F rfl dX3_solve_63 ?_
          refine j_iconst F dX3_solve_64 ?_
          refine j_icmp_ne F 77 (by decide) (by omega) (by omega) dX3_solve_65 (fun c65 => ?_) (fun c65 => ?_)
          · skip
            refine j_iload_n F rfl dX3_solve_77 ?_
            exact j_iret F E (Nat.zero_le _) (Nat.zero_le _) dX3_solve_78 (ti_post hT (by
              have hk : lea (fun n => (spN (s0M M) bud n).1 ≠ -1) = n := lea_at c65 (fun k hk q => q (hI0 k hk))
              unfold slM; rw [if_neg (show ¬ ¬ (1 ≤ bud ∧ bud ≤ 200) from fun q => q hbr), if_neg c53, hk]; exact ⟨rfl, rfl⟩))
          · skip
            have c65' : (spN (s0M M) bud n).1 = -1 := by omega
            refine j_aload_n F rfl dX3_solve_68 ?_
            refine j_iload_n F rfl dX3_solve_69 ?_
            refine t_callI F hT (ct_X3_step l G KS x _ (hI3 c65') hbr.2) (by decide) (by decide) (lw_V q1673 q1675 qs62 q110 q1676) pd_X3_step rfl (Nat.le_of_ble_eq_true rfl) (Nat.le_refl _) (Nat.le_refl _) dX3_solve_70 (fun v70 M70 h hv70 hT => ?_)
            refine j_istore_n F (by decide) dX3_solve_73 ?_
            refine j_goto F 63 (by decide) dX3_solve_74 ?_
            refine j_lv (lv' := [(0, .ref x), (1, vI bud), (2, vI v70)]) ⟨rfl, rfl, rfl, trivial⟩ ?_
            exact ih63 (n + 1) v70 _ _ ⟨fun k hk => by
              by_cases e : k = n
              · rw [e]; exact c65'
              · exact hI0 k (by omega), hv70.1, hv70.2, fun e => ((hI3 c65').step (hv70.1.symm.trans e)).1⟩ (by
              rw [if_pos c65'] at hm63
              show (if (spM (spN (s0M M) bud n).2 bud).1 = -1 then spU (spM (spN (s0M M) bud n).2 bud).2 bud + 1 else 0) < m63
              split
              · rename_i e
                have := ((hI3 c65').step e).2
                omega
              · omega) hT
      refine j_lv (lv' := [(0, .ref x), (1, vI bud), (2, vI (-1))]) ⟨rfl, rfl, rfl, trivial⟩ ?_
      exact L63 _ 0 (-1) _ _ ⟨fun k hk => absurd hk (Nat.not_lt_zero _), rfl, rfl, fun _ => hS0⟩ (Nat.lt_succ_self _) hT
    · skip
      refine j_aload_n F rfl dX3_solve_56 ?_
      refine t_callI F hT (ct_X3_refuted l G KS x (s0M M) hS0.2.1 hS0.2.2.1) (by decide) (by decide) (lw_V q1661 q1663 qs59 q110 q1664) pd_X3_refuted rfl (Nat.le_of_ble_eq_true rfl) (Nat.le_refl _) (Nat.le_refl _) dX3_solve_57 (fun v57 M57 h hv57 hT => ?_)
      exact j_iret F E (Nat.zero_le _) (Nat.zero_le _) dX3_solve_60 (ti_post hT (by unfold slM; rw [if_neg (show ¬ ¬ (1 ≤ bud ∧ bud ≤ 200) from fun q => q hbr), if_pos c53]; exact hv57))
  · skip
    have hbr : ¬ (1 ≤ bud ∧ bud ≤ 200) := by split at hv10 <;> omega
    refine j_iconst F dX3_solve_16 ?_
    exact j_iret F E (Nat.zero_le _) (Nat.zero_le _) dX3_solve_17 (ti_post hT (by unfold slM; rw [if_pos hbr]; exact ⟨rfl, rfl⟩))
