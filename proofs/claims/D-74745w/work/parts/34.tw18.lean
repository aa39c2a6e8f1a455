theorem br_st (M : Mt) (f g : Int → Int) (v a b : Int) : oM (oM (sM (sM M 12 f) 13 g) 12 v a) 13 v b = sM (sM M 12 (oI f v a)) 13 (oI g v b) := by
  funext q
  by_cases h2 : q = 12
  · subst h2; rfl
  · by_cases h3 : q = 13
    · subst h3; rfl
    · rw [oM_n _ _ _ h3, oM_n _ _ _ h2, sM_n _ _ h3, sM_n _ _ h2, sM_n _ _ h3, sM_n _ _ h2]
theorem cpy_s {f g : Int → Int} {i w : Int} (hi : 0 ≤ i) (hw : w = f i) : oI (fun v => if 0 ≤ v ∧ v < i then f v else g v) i w = fun v => if 0 ≤ v ∧ v < i + 1 then f v else g v := by
  funext v
  unfold oI
  by_cases e : v = i
  · rw [if_pos e, if_pos (by omega), hw, e]
  · rw [if_neg e]
    dsimp only
    by_cases e2 : 0 ≤ v ∧ v < i
    · rw [if_pos e2, if_pos (by omega)]
    · rw [if_neg e2, if_neg (by omega)]
theorem dpF_s {M : Mt} {i w : Int} (hi : 1 ≤ i) (hw : w = dpF M (i + 1) i) : oI (dpF M i) i w = dpF M (i + 1) := by
  funext v
  unfold oI
  by_cases e : v = i
  · rw [if_pos e, hw, e]
  · rw [if_neg e]
    unfold dpF
    by_cases e2 : 1 ≤ v ∧ v < i
    · rw [if_pos e2, if_pos (by omega)]
    · rw [if_neg e2, if_neg (by omega)]
theorem dpF_1 (M : Mt) : dpF M 1 = M 12 := funext fun v => if_neg (by omega)
theorem dpF_at {M : Mt} {i : Int} (hi : 1 ≤ i) : dpF M (i + 1) i = cif (M 12 i = 1 ∧ ¬ drp M i) 1 0 := if_pos (by omega)
theorem ctp_s {p : Int → Prop} {i : Int} (hi : 1 ≤ i) : ctp p (i + 1 - 1).toNat = ctp p (i - 1).toNat + cif (p i) 1 0 := by
  have e : (i + 1 - 1).toNat = (i - 1).toNat + 1 := by omega
  rw [e, ctp, show (((i - 1).toNat : Nat) : Int) + 1 = i by omega]
theorem scF_s {R g : Int → Int} {i w : Int} (hi : 1 ≤ i) (hw : w = sc9 (R (63 + i)) (g i)) : oI (scF R g i) (63 + i) w = scF R g (i + 1) := by
  funext j
  unfold oI scF
  by_cases e : j = 63 + i
  · rw [if_pos e, if_pos (by omega), hw, e, show 63 + i - 63 = i by omega]
  · rw [if_neg e]
    by_cases e2 : 64 ≤ j ∧ j < 63 + i
    · rw [if_pos e2, if_pos (by omega)]
    · rw [if_neg e2, if_neg (by omega)]
theorem div8 {a : Int} (h : 0 ≤ a ∧ a ≤ 1000) : Int32.ofInt a / Int32.ofInt 8 = Int32.ofInt (a / 8) := by
  apply Int32.toInt_inj.mp
  rw [Int32.toInt_div, i_toInt (by omega), i_toInt (by omega), i_toInt (by omega), Int.tdiv_eq_ediv_of_nonneg h.1]
  rw [Int.bmod_def]
  have : (a / 8) % ((2 ^ 32 : Nat) : Int) = a / 8 := Int.emod_eq_of_lt (by omega) (by omega)
  rw [this]
  split <;> omega
theorem clr_01 (f : Int → Int) {i : Int} (hi : 31 ≤ i) : b01 (fun v => if 0 ≤ v ∧ v < i then 0 else f v) := fun v v0 v1 => Or.inl (if_pos (by omega))
theorem wl_01 {M : Mt} (h : b01 (M 12)) : b01 (wlM M 14) := fun v v0 v1 => by
  have e : wlM M 14 v = M 12 v := if_pos (by omega)
  rw [e]; exact h v v0 v1
/-- the row while literals are laid -/
theorem ln_r0 {R g : Int → Int} {n a j : Int} (h1 : 0 ≤ R 1 ∧ R 1 < 400) (hj : j < 125 ∧ j ≠ 1 ∧ j ≠ 2 ∨ (525 + 400 ≤ j ∧ j < 1326)) : putL (bgR R 1 n) (R 1) a g j = R j := by
  rw [putL_n (by omega)]
  unfold bgR
  rw [oI_n _ _ (by omega), oI_n _ _ (by omega), oI_n _ _ (by omega), oI_n _ _ (by omega)]
theorem ln_r1 {M : Mt} {j : Int} (h1 : 0 ≤ M 1 1 ∧ M 1 1 < 400) (h6 : 0 ≤ M 1 6) (hj : j = 0 ∨ (63 ≤ j ∧ j < 125)) : lnR0 M j = M 1 j := by
  unfold lnR0
  rw [oI_n _ _ (by omega), oI_n _ _ (by omega), oI_n _ _ (by omega)]
  exact ln_r0 h1 (by omega)
theorem ln_aux {M : Mt} (hK : TK M) (hR : RI (M 1)) (hT : TR M) (hm : M 1 1 < 400) (hJ : LJ M) : (1 < ln2 M → lit (lnR M) (M 1 1) 1 = lgk M 1 ∧ lok (M 1 0) (lgk M 1)) ∧ lvM (sM M 1 (lnR M)) (lnB M) 1 (1326 + 30 * M 1 1 + 0) = lgk M 0 ∧ lok 30 (lgk M 0) ∧ lvM (sM M 1 (lnR M)) (lnB M) 10 0 < 30 ∧ 0 ≤ lvM (sM M 1 (lnR M)) (lnB M) 10 0 ∧ (0 ≤ lnB M ∧ lnB M ≤ 30) ∧ (1 ≤ ln2 M ∧ ln2 M ≤ 30) := by
  have hn := ln2_rg hR hJ
  have hV := hR.V
  have hmy := hR.many
  obtain ⟨o0, o1, o3, oas, oc, os, of, ol⟩ := lnR_old hR hm (by omega)
  obtain ⟨a1, a2, a3, a4⟩ := lgk_all hR hK.2.1.1 hJ
  obtain ⟨b1, b2, b3, b4⟩ := TK.learn hK hR hT hm hJ
  have hB : 0 ≤ lnB M ∧ lnB M ≤ 30 := by
    unfold lnB
    split
    · rename_i q
      have w := a1 1 (by omega) q
      rw [w.2.1]
      have := hT.lvl
      omega
    · omega
  have hC : TC (sM M 1 (lnR M)) := hK.1.row hR o0 (by omega) (fun c c0 c1 => ⟨(oc c c0 c1).1, (oc c c0 c1).2.2⟩)
  have hTN : TR (sM M 1 (lnR M)) := hT
  have hRN : RI (sM M 1 (lnR M) 1) := hR.learn hK.2.1.1 hm hJ
  obtain ⟨i1, i2, i3, i4, i5, i6, i7, i8, i9, i10⟩ := lvM_spec hC hTN hRN (lnB M) hB.2
  have ht := b3.trd
  have ht' : 0 ≤ lvM (sM M 1 (lnR M)) (lnB M) 10 0 + 1 ∧ lvM (sM M 1 (lnR M)) (lnB M) 10 0 + 1 ≤ 30 := ht
  have w0 := a1 0 (by omega) (by omega)
  refine ⟨fun q => ⟨ol 1 (by omega) q, (a1 1 (by omega) q).1⟩, ?_, ?_, by omega, i2.trd.1, hB, hn⟩
  · have := i4.lit (c := M 1 1) (k := 0) hmy.1 (by omega)
    unfold lit at this
    rw [this]
    exact ol 0 (by omega) (by omega)
  · have := w0.1
    unfold lok at *
    omega
theorem pd_X3_learns : yX3_learns.cls = RX3 ∧ yX3_learns.cls ≠ "java/lang/invoke/MethodHandle" ∧ yX3_learns.cls ≠ "java/lang/invoke/VarHandle" ∧ (parseMethodDescriptor yX3_learns.desc).map (fun d => d.parameters.length) = some 1 := by decide +kernel
theorem ct_X3_learns (l : Launch) (G : Gt) (KS : Ks l G) (x : Nat) (M : Mt) {c : Int} (hK : TK M) (hR : RI (M 1)) (hTR : TR M) (hc0 : 0 ≤ c) (hc1 : c < M 1 1) (hf : ¬ 2 ≤ flg (M 1) c) (ho : opn (M 1) (M 5) c = 0) (hl : 0 < M 11 0) (hm : M 1 1 < 400) : TV l G yX3_learns cX3_learns 7 3 x [vI c] M (fun M' => M' = lrnM M c) := by
  intro h0 h hT
  refine ct_of KS (by decide) (Nat.le_of_ble_eq_true rfl) (fun X F E => ?_)
  refine j_lv (lv' := [(0, .ref x), (1, vI c)]) ⟨rfl, rfl, trivial⟩ ?_
  have hV := hR.V
  have hmy := hR.many
  have hln := hR.lines
  have hrf := hR.ref
  have hlv := hTR.lvl
  have hLA := LI.conf hK hR hc0 hc1 hf ho hl
  have e1A : lrA M c 1 = M 1 := lrA_q M c (by decide) (by decide)
  have hCA : TC (lrA M c) := hK.1.mark (fun q a b _ => lrA_q M c a b)
  obtain ⟨hLB, hKD, hTD, hJD⟩ := lrD_ok hK hR hTR hc0 hc1 hf ho hl
  have hB1 : lrB M c 1 = M 1 := lrB_q (by decide) (by decide)
  have hB5 : lrB M c 5 = M 5 := lrB_q (by decide) (by decide)
  have hB7 : lrB M c 7 = M 7 := lrB_q (by decide) (by decide)
  have hD1 : lrD M c 1 = M 1 := lrD_q (by decide) (by decide) (by decide)
  have hRD : RI (lrD M c 1) := by rw [hD1]; exact hR
  have hmD : lrD M c 1 1 < 400 := by rw [hD1]; exact hm
  have hmD0 : 0 ≤ lrD M c 1 1 := by rw [hD1]; exact hmy.1
  have hVD : lrD M c 1 0 = M 1 0 := congrFun hD1 0
  have h6D : lrD M c 1 6 = M 1 6 := congrFun hD1 6
  obtain ⟨x1, x2, x3, x4, x4', x5, x6⟩ := ln_aux hKD hRD hTD hmD hJD
  have hlD := hTD.lvl
  refine j_iconst F dX3_learns_0 ?_
  refine j_istore_n F (by decide) dX3_learns_1 ?_
  have L2 : ∀ (m2 : Nat) (i : Int) (N : Mt) (h : Hp), (0 ≤ i ∧ i ≤ 31 ∧ N = sM (sM M 12 (fun v => if 0 ≤ v ∧ v < i then 0 else M 12 v)) 13 (fun v => if 0 ≤ v ∧ v < i then 0 else M 13 v)) → (31 - i).toNat < m2 → Tw G x N h0 h → J X h 2 [(0, .ref x), (1, vI c), (2, vI i)] [] 0 0 := by
    intro m2
    induction m2 with
    | zero => intro i N h hI hm2 hT; exact absurd hm2 (Nat.not_lt_zero _)
    | succ m2 ih2 =>
      intro i N h hI hm2 hT
      obtain ⟨hI0, hI1, hI2⟩ := hI
      subst hI2
      refine j_iload_n F rfl dX3_learns_2 ?_
      refine j_bipush F (by decide) dX3_learns_3 ?_
      refine j_icmp_gt F 28 (by decide) (by omega) (by omega) dX3_learns_5 (fun c5 => ?_) (fun c5 => ?_)
      · skip
        refine j_aload_n F rfl dX3_learns_28 ?_
        refine j_iload_n F rfl dX3_learns_29 ?_
        refine j_iconst F dX3_learns_30 ?_
        refine t_callV F hT (ct_X3_brings l G KS x _ (c := c) (b := 0) hR (hTR.mark (fun q a b _ => by rw [sM_n _ _ b, sM_n _ _ a]) (clr_01 _ (by omega)) (clr_01 _ (by omega)) (fun v v0 v1 => hTR.t14 v0 v1)) ⟨hc0, hc1⟩ (by unfold rg; omega)) (by decide) (by decide) (lw_V q1701 q1703 qs69 q110 q1704) pd_X3_brings rfl (Nat.le_of_ble_eq_true rfl) (Nat.le_refl _) (Nat.le_refl _) dX3_learns_31 (fun M31 h hv31 hT => ?_)
        have L34 : ∀ (m34 : Nat) (n : Nat) (N34 : Mt) (h : Hp), ((∀ k : Nat, k < n → 1 < lnF (lrN (lrA M c) k) (M 1 0).toNat) ∧ N34 = (lrN (lrA M c) n)) → ((lrN (lrA M c) n) 8 (laF (lrN (lrA M c) n) ((lrN (lrA M c) n) 1 0).toNat) + 1).toNat < m34 → Tw G x N34 h0 h → J X h 34 [(0, .ref x), (1, vI c)] [] 0 0 := by
          intro m34
          induction m34 with
          | zero => intro n N34 h hI hm34 hT; exact absurd hm34 (Nat.not_lt_zero _)
          | succ m34 ih34 =>
            intro n N34 h hI hm34 hT
            obtain ⟨hJ0, hJ1⟩ := hI
            subst hJ1
            obtain ⟨hLn, hqn⟩ := lr_run hCA (by rw [e1A]; exact hR) hLA n (by rw [e1A]; exact hJ0)
            have hqM : ∀ q : Nat, q ≠ 12 → q ≠ 13 → (lrN (lrA M c) n) q = M q := fun q a b => (hqn q a b).trans (lrA_q M c a b)
            have e1n : (lrN (lrA M c) n) 1 = M 1 := hqM 1 (by decide) (by decide)
            have hRn : RI ((lrN (lrA M c) n) 1) := by rw [e1n]; exact hR
            have h14n : b01 ((lrN (lrA M c) n) 14) := by rw [hqM 14 (by decide) (by decide)]; exact fun v v0 v1 => hTR.t14 v0 v1
            have hTn : TR (lrN (lrA M c) n) := hTR.mark (fun q a b _ => hqM q a b) hLn.2.1 hLn.2.2.1 h14n
            have hCn : TC (lrN (lrA M c) n) := hK.1.mark (fun q a b _ => hqM q a b)
            have hlnr := lnF_rg (lrN (lrA M c) n) ((lrN (lrA M c) n) 1 0).toNat
            have e1n0 : (lrN (lrA M c) n) 1 0 = M 1 0 := congrFun e1n 0
            refine j_aload_n F rfl dX3_learns_34 ?_
            refine t_callI F hT (ct_X3_levelNow l G KS x _ hRn hTn) (by decide) (by decide) (lw_V q1705 q1707 qs70 q110 q1708) pd_X3_levelNow rfl (Nat.le_of_ble_eq_true rfl) (Nat.le_refl _) (Nat.le_refl _) dX3_learns_35 (fun v35 M' h hv35 hT => ?_)
            obtain ⟨hv35, rfl⟩ := hv35
            subst hv35
            refine j_iconst F dX3_learns_38 ?_
            refine j_icmp_le F 68 (by decide) (by omega) (by omega) dX3_learns_39 (fun c39 => ?_) (fun c39 => ?_)
            · skip
              have hk : lrK M c = n := lea_at (by rw [← e1n0]; omega) (fun k hk q => q (hJ0 k hk))
              replace hT : Tw G x (lrB M c) h0 h := by unfold lrB; rw [hk]; exact hT
              refine j_iconst F dX3_learns_68 ?_
              refine j_istore_n F (by decide) dX3_learns_69 ?_
              have L70 : ∀ (m70 : Nat) (i : Int) (N70 : Mt) (h : Hp), (0 ≤ i ∧ i ≤ 31 ∧ N70 = sM (lrB M c) 14 (fun v => if 0 ≤ v ∧ v < i then (lrB M c) 12 v else (lrB M c) 14 v)) → (31 - i).toNat < m70 → Tw G x N70 h0 h → J X h 70 [(0, .ref x), (1, vI c), (2, vI i)] [] 0 0 := by
                intro m70
                induction m70 with
                | zero => intro i N70 h hI hm70 hT; exact absurd hm70 (Nat.not_lt_zero _)
                | succ m70 ih70 =>
                  intro i N70 h hI hm70 hT
                  obtain ⟨hI0, hI1, hI2⟩ := hI
                  subst hI2
                  refine j_iload_n F rfl dX3_learns_70 ?_
                  refine j_bipush F (by decide) dX3_learns_71 ?_
                  refine j_icmp_gt F 94 (by decide) (by omega) (by omega) dX3_learns_73 (fun c73 => ?_) (fun c73 => ?_)
                  · skip
                    replace hT : Tw G x (wlM (lrB M c)) h0 h := by unfold wlM; rw [show i = 31 by omega] at hT; exact hT
                    refine j_iconst F dX3_learns_94 ?_
                    refine j_istore_n F (by decide) dX3_learns_95 ?_
                    have L96 : ∀ (m96 : Nat) (i : Int) (N96 : Mt) (h : Hp), (1 ≤ i ∧ i ≤ M 1 0 + 1 ∧ N96 = sM (wlM (lrB M c)) 12 (dpF (wlM (lrB M c)) i)) → (M 1 0 + 1 - i).toNat < m96 → Tw G x N96 h0 h → J X h 96 [(0, .ref x), (2, vI i)] [] 0 0 := by
                      intro m96
                      induction m96 with
                      | zero => intro i N96 h hI hm96 hT; exact absurd hm96 (Nat.not_lt_zero _)
                      | succ m96 ih96 =>
                        intro i N96 h hI hm96 hT
                        obtain ⟨hI0, hI1, hI2⟩ := hI
                        subst hI2
                        refine j_iload_n F rfl dX3_learns_96 ?_
                        refine j_aload_n F rfl dX3_learns_97 ?_
                        refine t_get F hT 1 (by decide) rfl q1487 dX3_learns_98 ?_
                        refine j_iconst F dX3_learns_101 ?_
                        refine t_ialdw F hT 1 tm_1 (M 1 0) (congrFun hB1 0) (by omega) dX3_learns_102 ?_
                        refine j_icmp_gt F 140 (by decide) (by omega) (by omega) dX3_learns_103 (fun c103 => ?_) (fun c103 => ?_)
                        · skip
                          replace hT : Tw G x (lrD M c) h0 h := by
                            have e9 : (wlM (lrB M c)) 1 0 + 1 = i := by show (lrB M c) 1 0 + 1 = i; rw [hB1]; omega
                            unfold lrD dpM; rw [e9]; exact hT
                          refine j_iconst F dX3_learns_140 ?_
                          refine j_istore_n F (by decide) dX3_learns_141 ?_
                          refine j_iconst F dX3_learns_142 ?_
                          refine j_istore_n F (by decide) dX3_learns_143 ?_
                          have L144 : ∀ (m144 : Nat) (i a : Int) (h : Hp), (1 ≤ i ∧ i ≤ M 1 0 + 1 ∧ a = ctp (fun u => (lrD M c) 12 u = 1) (i - 1).toNat) → (M 1 0 + 1 - i).toNat < m144 → Tw G x (lrD M c) h0 h → J X h 144 [(0, .ref x), (2, vI a), (3, vI i)] [] 0 0 := by
                            intro m144
                            induction m144 with
                            | zero => intro i a h hI hm144 hT; exact absurd hm144 (Nat.not_lt_zero _)
                            | succ m144 ih144 =>
                              intro i a h hI hm144 hT
                              obtain ⟨hI0, hI1, hI2⟩ := hI
                              have hcr := ctp_rg (fun u => (lrD M c) 12 u = 1) (i - 1).toNat
                              refine j_iload_n F rfl dX3_learns_144 ?_
                              refine j_aload_n F rfl dX3_learns_145 ?_
                              refine t_get F hT 1 (by decide) rfl q1487 dX3_learns_146 ?_
                              refine j_iconst F dX3_learns_149 ?_
                              refine t_ialdw F hT 1 tm_1 (M 1 0) hVD (by omega) dX3_learns_150 ?_
                              refine j_icmp_gt F 177 (by decide) (by omega) (by omega) dX3_learns_151 (fun c151 => ?_) (fun c151 => ?_)
                              · skip
                                have ha2 : a = ln2 (lrD M c) := by rw [hI2]; unfold ln2; rw [hVD, show i - 1 = M 1 0 by omega]
                                subst ha2
                                refine j_aload_n F rfl dX3_learns_177 ?_
                                refine j_iconst F dX3_learns_178 ?_
                                refine j_iload_n F rfl dX3_learns_179 ?_
                                refine t_callI F hT (ct_X3_begins l G KS x _ (f := 1) (n := ln2 (lrD M c)) (by unfold rg; omega) ⟨hmD0, hmD⟩) (by decide) (by decide) (lw_V q1609 q1611 qs54 q110 q1612) pd_X3_begins rfl (Nat.le_of_ble_eq_true rfl) (Nat.le_refl _) (Nat.le_refl _) dX3_learns_180 (fun v180 M180 h hv180 hT => ?_)
                                obtain ⟨e180, he180⟩ := hv180
                                subst e180
                                refine j_istore_n F (by decide) dX3_learns_183 ?_
                                refine j_iconst F dX3_learns_184 ?_
                                refine j_istore F (by decide) dX3_learns_185 ?_
                                refine j_aload_n F rfl dX3_learns_187 ?_
                                refine t_get F hT 11 (by decide) (v := vI ((lrD M c) 11 0)) (by rw [he180]; rfl) q1497 dX3_learns_188 ?_
                                refine j_istore F (by decide) dX3_learns_191 ?_
                                have L193 : ∀ (m193 : Nat) (l9 a : Int) (N193 : Mt) (h : Hp), (0 ≤ l9 ∧ l9 ≤ (lrD M c) 11 0 ∧ a = rkA (lrD M c) l9 1 ∧ N193 = sM (lrD M c) 1 (putL (bgR ((lrD M c) 1) 1 (ln2 (lrD M c))) ((lrD M c) 1 1) a (lgk (lrD M c)))) → l9.toNat < m193 → Tw G x N193 h0 h → J X h 193 [(0, .ref x), (2, vI (ln2 (lrD M c))), (3, vI ((lrD M c) 1 1)), (4, vI a), (5, vI l9)] [] 0 0 := by
                                  intro m193
                                  induction m193 with
                                  | zero => intro l9 a N193 h hI hm193 hT; exact absurd hm193 (Nat.not_lt_zero _)
                                  | succ m193 ih193 =>
                                    intro l9 a N193 h hI hm193 hT
                                    obtain ⟨hI0, hI1, hI2, hI3⟩ := hI
                                    subst hI3
                                    refine j_iload F rfl dX3_learns_193 ?_
                                    refine j_if_le F 286 (by decide) (by omega) dX3_learns_195 (fun c195 => ?_) (fun c195 => ?_)
                                    · skip
                                      have ha9 : a = ln2 (lrD M c) := by rw [hI2, show l9 = 0 by omega]; exact rkA_bot (fun u u0 u1 hu => (hJD.1 u u0 u1 hu).2.1)
                                      subst ha9
                                      refine j_aload_n F rfl dX3_learns_286 ?_
                                      refine t_get F hT 1 (by decide) rfl q1487 dX3_learns_287 ?_
                                      refine j_sipush F (by decide) dX3_learns_290 ?_
                                      refine j_aload_n F rfl dX3_learns_293 ?_
                                      refine t_get F hT 1 (by decide) rfl q1487 dX3_learns_294 ?_
                                      refine j_bipush F (by decide) dX3_learns_297 ?_
                                      refine t_ialdw F hT 1 tm_1 (M 1 6) ((ln_r0 ⟨hmD0, hmD⟩ (by omega)).trans h6D) (by omega) dX3_learns_299 ?_
                                      refine j_iadd F dX3_learns_300 ?_
                                      refine j_iload_n F rfl dX3_learns_301 ?_
                                      refine t_iast F hT 1 tm_1 rfl (by omega) dX3_learns_302 (fun h hT => ?_)
                                      refine j_aload_n F rfl dX3_learns_303 ?_
                                      refine t_get F hT 1 (by decide) rfl q1487 dX3_learns_304 ?_
                                      refine j_bipush F (by decide) dX3_learns_307 ?_
                                      refine j_dup2 F rfl rfl dX3_learns_309 ?_
                                      refine t_ialdw F hT 1 tm_1 (M 1 6) (by rw [oM_s, oI_n _ _ (by omega)]; exact (ln_r0 ⟨hmD0, hmD⟩ (by omega)).trans h6D) (by omega) dX3_learns_310 ?_
                                      refine j_iconst F dX3_learns_311 ?_
                                      refine j_iadd F dX3_learns_312 ?_
                                      refine t_iast F hT 1 tm_1 rfl (by omega) dX3_learns_313 (fun h hT => ?_)
                                      refine j_aload_n F rfl dX3_learns_314 ?_
                                      refine t_get F hT 1 (by decide) rfl q1487 dX3_learns_315 ?_
                                      refine j_bipush F (by decide) dX3_learns_318 ?_
                                      refine j_dup2 F rfl rfl dX3_learns_320 ?_
                                      refine t_ialdw F hT 1 tm_1 ((lrD M c) 1 8) (by rw [oM_s, oI_n _ _ (by omega), oM_s, oI_n _ _ (by omega)]; exact ln_r0 ⟨hmD0, hmD⟩ (by omega)) (by omega) dX3_learns_321 ?_
                                      refine j_iconst F dX3_learns_322 ?_
                                      refine j_iadd F dX3_learns_323 ?_
                                      refine t_iast F hT 1 tm_1 rfl (by omega) dX3_learns_324 (fun h hT => ?_)
                                      refine j_iconst F dX3_learns_325 ?_
                                      refine j_istore F (by decide) dX3_learns_326 ?_
                                      have L328 : ∀ (m328 : Nat) (i : Int) (N328 : Mt) (h : Hp), (1 ≤ i ∧ i ≤ M 1 0 + 1 ∧ N328 = sM (lrD M c) 1 (scF (lnR0 (lrD M c)) ((lrD M c) 13) i)) → (M 1 0 + 1 - i).toNat < m328 → Tw G x N328 h0 h → J X h 328 [(0, .ref x), (2, vI (ln2 (lrD M c))), (3, vI ((lrD M c) 1 1)), (5, vI i)] [] 0 0 := by
                                        intro m328
                                        induction m328 with
                                        | zero => intro i N328 h hI hm328 hT; exact absurd hm328 (Nat.not_lt_zero _)
                                        | succ m328 ih328 =>
                                          intro i N328 h hI hm328 hT
                                          obtain ⟨hI0, hI1, hI2⟩ := hI
                                          subst hI2
                                          have hr64 : lnR0 (lrD M c) (63 + i) = (lrD M c) 1 (63 + i) := ln_r1 ⟨hmD0, hmD⟩ (by omega) (by omega)
                                          have hr0 : scF (lnR0 (lrD M c)) ((lrD M c) 13) i 0 = M 1 0 := by
                                            unfold scF; rw [if_neg (by omega)]; exact (ln_r1 ⟨hmD0, hmD⟩ (by omega) (by omega)).trans hVD
                                          have hr63 : scF (lnR0 (lrD M c)) ((lrD M c) 13) i (63 + i) = (lrD M c) 1 (63 + i) := by
                                            unfold scF; rw [if_neg (by omega)]; exact hr64
                                          refine j_iload F rfl dX3_learns_328 ?_
                                          refine j_aload_n F rfl dX3_learns_330 ?_
                                          refine t_get F hT 1 (by decide) rfl q1487 dX3_learns_331 ?_
                                          refine j_iconst F dX3_learns_334 ?_
                                          refine t_ialdw F hT 1 tm_1 (M 1 0) hr0 (by omega) dX3_learns_335 ?_
                                          refine j_icmp_gt F 400 (by decide) (by omega) (by omega) dX3_learns_336 (fun c336 => ?_) (fun c336 => ?_)
                                          · skip
                                            replace hT : Tw G x (sM (lrD M c) 1 (lnR (lrD M c))) h0 h := by unfold lnR; rw [hVD, show M 1 0 + 1 = i by omega]; exact hT
                                            refine j_aload_n F rfl dX3_learns_400 ?_
                                            refine j_joinT (x := x) (M := sM (lrD M c) 1 (lnR (lrD M c))) (G := G) (h0 := h0) 424 (fun w => w = lnB (lrD M c)) (fun w h hw hT => ?_) (fun Kj401 => ?_)
                                            · skip
                                              subst hw
                                              refine t_callV F hT (ct_X3_leaves l G KS x _ (b := lnB (lrD M c)) (by unfold rg; omega) hTD.trd (fun p p0 p1 => hTD.tra p0 (by have := hTD.trd; have q : p < (lrD M c) 10 0 := p1; omega)) (fun v v0 v1 => by have := hTD.lev v0 v1; show rg ((lrD M c) 6 v); unfold rg; omega)) (by decide) (by decide) (lw_V q1669 q1671 qs61 q110 q1672) pd_X3_leaves rfl (Nat.le_of_ble_eq_true rfl) (Nat.le_refl _) (Nat.le_refl _) dX3_learns_424 (fun M424 h hv424 hT => ?_)
                                              subst hv424
                                              refine j_aload_n F rfl dX3_learns_427 ?_
                                              refine j_aload_n F rfl dX3_learns_428 ?_
                                              refine j_iload_n F rfl dX3_learns_429 ?_
                                              refine j_iconst F dX3_learns_430 ?_
                                              refine t_callI F hT (ct_X3_literal l G KS x _ (c := (lrD M c) 1 1) (k := 0) ⟨hmD0, hmD⟩ (by omega)) (by decide) (by decide) (lw_V q1685 q1687 qs65 q110 q1688) pd_X3_literal rfl (Nat.le_of_ble_eq_true rfl) (Nat.le_refl _) (Nat.le_refl _) dX3_learns_431 (fun v431 M' h hv431 hT => ?_)
                                              obtain ⟨hv431, rfl⟩ := hv431
                                              have e431 : v431 = lgk (lrD M c) 0 := hv431.trans x2
                                              subst e431
                                              refine j_iload_n F rfl dX3_learns_434 ?_
                                              refine t_callV F hT (ct_X3_comes l G KS x _ (a := lgk (lrD M c) 0) (w := (lrD M c) 1 1) x3 ⟨x4', x4⟩) (by decide) (by decide) (lw_V q1717 q1719 qs73 q110 q1720) pd_X3_comes rfl (Nat.le_of_ble_eq_true rfl) (Nat.le_refl _) (Nat.le_refl _) dX3_learns_435 (fun M435 h hv435 hT => ?_)
                                              exact j_vret F E (Nat.zero_le _) (Nat.zero_le _) dX3_learns_438 (tv_post hT (by rw [hv435]; rfl))
                                            · skip
                                              refine j_iload_n F rfl dX3_learns_401 ?_
                                              refine j_iconst F dX3_learns_402 ?_
                                              refine j_icmp_le F 423 (by decide) (by omega) (by omega) dX3_learns_403 (fun c403 => ?_) (fun c403 => ?_)
                                              · skip
                                                refine j_iconst F dX3_learns_423 ?_
                                                exact Kj401 _ _ (by unfold lnB; first | rw [if_pos (by omega)] | rw [if_neg (by omega)]) hT
                                              · skip
                                                refine j_aload_n F rfl dX3_learns_406 ?_
                                                refine t_get F hT 6 (by decide) rfl q1492 dX3_learns_407 ?_
                                                refine j_aload_n F rfl dX3_learns_410 ?_
                                                refine j_iload_n F rfl dX3_learns_411 ?_
                                                refine j_iconst F dX3_learns_412 ?_
                                                refine t_callI F hT (ct_X3_literal l G KS x _ (c := (lrD M c) 1 1) (k := 1) ⟨hmD0, hmD⟩ (by omega)) (by decide) (by decide) (lw_V q1685 q1687 qs65 q110 q1688) pd_X3_literal rfl (Nat.le_of_ble_eq_true rfl) (Nat.le_refl _) (Nat.le_refl _) dX3_learns_413 (fun v413 M' h hv413 hT => ?_)
                                                obtain ⟨hv413, rfl⟩ := hv413
                                                have e413 : v413 = lgk (lrD M c) 1 := hv413.trans (x1 (by omega)).1
                                                subst e413
                                                have hlk1 := (x1 (by omega)).2
                                                rw [hVD] at hlk1
                                                have hi1 := iab_lok hlk1
                                                unfold lok at hlk1
                                                refine s_callI F (ct_X3_size l G KS (a := lgk (lrD M c) 1) (by unfold rg; omega)) (by decide) (by decide) (lw_S q1591 q1592 q110 q1593) pd_X3_size rfl (Nat.le_of_ble_eq_true rfl) (Nat.le_refl _) (Nat.le_refl _) dX3_learns_416 (fun v416 hv416 => ?_)
                                                subst hv416
                                                refine t_ialdw F hT 6 tm_6 ((lrD M c) 6 (iab (lgk (lrD M c) 1))) rfl (by omega) dX3_learns_419 ?_
                                                refine j_goto F 424 (by decide) dX3_learns_420 ?_
                                                exact Kj401 _ _ (by unfold lnB; first | rw [if_pos (by omega)] | rw [if_neg (by omega)]) hT
                                          · skip
                                            have hb13 := hTD.t13 (v := i) (by omega) (by omega)
                                            have hsr := hRD.sc (v := i) (by omega) (by omega)
                                            refine j_aload_n F rfl dX3_learns_339 ?_
                                            refine t_get F hT 1 (by decide) rfl q1487 dX3_learns_340 ?_
                                            refine j_bipush F (by decide) dX3_learns_343 ?_
                                            refine j_iload F rfl dX3_learns_345 ?_
                                            refine j_iadd F dX3_learns_347 ?_
                                            refine j_dup2 F rfl rfl dX3_learns_348 ?_
                                            refine t_ialdw F hT 1 tm_1 ((lrD M c) 1 (63 + i)) hr63 (by omega) dX3_learns_349 ?_
                                            refine j_joinT (x := x) (M := sM (lrD M c) 1 (scF (lnR0 (lrD M c)) ((lrD M c) 13) i)) (G := G) (h0 := h0) 366 (fun w => w = if (lrD M c) 13 i = 1 then 16 else 0) (fun w h hw hT => ?_) (fun Kj350 => ?_)
                                            · skip
                                              have hsc : (lrD M c) 1 (63 + i) + w - ((lrD M c) 1 (63 + i) + w) / 8 = sc9 (lnR0 (lrD M c) (63 + i)) ((lrD M c) 13 i) := by rw [hr64]; unfold sc9; rw [← hw]
                                              refine j_iadd F dX3_learns_366 ?_
                                              refine t_iast F hT 1 tm_1 rfl (by omega) dX3_learns_367 (fun h hT => ?_)
                                              refine j_aload_n F rfl dX3_learns_368 ?_
                                              refine t_get F hT 1 (by decide) rfl q1487 dX3_learns_369 ?_
                                              refine j_bipush F (by decide) dX3_learns_372 ?_
                                              refine j_iload F rfl dX3_learns_374 ?_
                                              refine j_iadd F dX3_learns_376 ?_
                                              refine j_dup2 F rfl rfl dX3_learns_377 ?_
                                              refine t_ialdw F hT 1 tm_1 ((lrD M c) 1 (63 + i) + w) (by rw [oM_s, oI_s]) (by omega) dX3_learns_378 ?_
                                              refine j_aload_n F rfl dX3_learns_379 ?_
                                              refine t_get F hT 1 (by decide) rfl q1487 dX3_learns_380 ?_
                                              refine j_bipush F (by decide) dX3_learns_383 ?_
                                              refine j_iload F rfl dX3_learns_385 ?_
                                              refine j_iadd F dX3_learns_387 ?_
                                              refine t_ialdw F hT 1 tm_1 ((lrD M c) 1 (63 + i) + w) (by rw [oM_s, oI_s]) (by omega) dX3_learns_388 ?_
                                              refine j_bipush F (by decide) dX3_learns_389 ?_
                                              refine j_idiv F (((lrD M c) 1 (63 + i) + w) / 8) (by decide) (div8 (by split at hw <;> omega)) dX3_learns_391 ?_
                                              refine j_isub F dX3_learns_392 ?_
                                              refine t_iast F hT 1 tm_1 rfl (by omega) dX3_learns_393 (fun h hT => ?_)
                                              refine j_iinc F rfl (by decide) dX3_learns_394 ?_
                                              refine j_goto F 328 (by decide) dX3_learns_397 ?_
                                              refine j_lv (lv' := [(0, .ref x), (2, vI (ln2 (lrD M c))), (3, vI ((lrD M c) 1 1)), (5, vI (i + 1))]) ⟨rfl, rfl, rfl, rfl, trivial⟩ ?_
                                              exact ih328 (i + 1) _ _ ⟨by omega, by omega, by rw [oM_oM, oM_sM, scF_s hI0 hsc]⟩ (by omega) hT
                                            · skip
                                              refine j_aload_n F rfl dX3_learns_350 ?_
                                              refine t_get F hT 13 (by decide) rfl q1499 dX3_learns_351 ?_
                                              refine j_iload F rfl dX3_learns_354 ?_
                                              refine t_zaldw F hT 13 tm_13 ((lrD M c) 13 i) rfl (by omega) dX3_learns_356 ?_
                                              refine j_if_eq F 365 (by decide) (by omega) dX3_learns_357 (fun c357 => ?_) (fun c357 => ?_)
                                              · skip
                                                refine j_iconst F dX3_learns_365 ?_
                                                exact Kj350 _ _ (by first | rw [if_pos (by omega)] | rw [if_neg (by omega)]) hT
                                              · skip
                                                refine j_bipush F (by decide) dX3_learns_360 ?_
                                                refine j_goto F 366 (by decide) dX3_learns_362 ?_
                                                exact Kj350 _ _ (by first | rw [if_pos (by omega)] | rw [if_neg (by omega)]) hT
                                      refine j_lv (lv' := [(0, .ref x), (2, vI (ln2 (lrD M c))), (3, vI ((lrD M c) 1 1)), (5, vI 1)]) ⟨rfl, rfl, rfl, rfl, trivial⟩ ?_
                                      exact L328 _ 1 _ _ ⟨by omega, by omega, by rw [show scF (lnR0 (lrD M c)) ((lrD M c) 13) 1 = lnR0 (lrD M c) from funext fun j => if_neg (by omega)]; unfold lnR0; rw [h6D, oM_sM, oM_sM, oM_sM]⟩ (Nat.lt_succ_self _) hT
                                    · skip
                                      refine j_iconst F dX3_learns_198 ?_
                                      refine j_istore F (by decide) dX3_learns_199 ?_
                                      have L201 : ∀ (m201 : Nat) (v a : Int) (N201 : Mt) (h : Hp), (1 ≤ v ∧ v ≤ M 1 0 + 1 ∧ a = rkA (lrD M c) l9 v ∧ N201 = sM (lrD M c) 1 (putL (bgR ((lrD M c) 1) 1 (ln2 (lrD M c))) ((lrD M c) 1 1) a (lgk (lrD M c)))) → (M 1 0 + 1 - v).toNat < m201 → Tw G x N201 h0 h → J X h 201 [(0, .ref x), (2, vI (ln2 (lrD M c))), (3, vI ((lrD M c) 1 1)), (4, vI a), (5, vI l9), (6, vI v)] [] 0 0 := by
                                        intro m201
                                        induction m201 with
                                        | zero => intro v a N201 h hI hm201 hT; exact absurd hm201 (Nat.not_lt_zero _)
                                        | succ m201 ih201 =>
                                          intro v a N201 h hI hm201 hT
                                          obtain ⟨hK0, hK1, hK2, hK3⟩ := hI
                                          subst hK3
                                          refine j_iload F rfl dX3_learns_201 ?_
                                          refine j_aload_n F rfl dX3_learns_203 ?_
                                          refine t_get F hT 1 (by decide) rfl q1487 dX3_learns_204 ?_
                                          refine j_iconst F dX3_learns_207 ?_
                                          refine t_ialdw F hT 1 tm_1 (M 1 0) ((ln_r0 ⟨hmD0, hmD⟩ (by omega)).trans hVD) (by omega) dX3_learns_208 ?_
                                          refine j_icmp_gt F 280 (by decide) (by omega) (by omega) dX3_learns_209 (fun c209 => ?_) (fun c209 => ?_)
                                          · skip
                                            refine j_iinc F rfl (by decide) dX3_learns_280 ?_
                                            refine j_goto F 193 (by decide) dX3_learns_283 ?_
                                            refine j_lv (lv' := [(0, .ref x), (2, vI (ln2 (lrD M c))), (3, vI ((lrD M c) 1 1)), (4, vI a), (5, vI (l9 - 1))]) ⟨rfl, rfl, rfl, rfl, rfl, trivial⟩ ?_
                                            exact ih193 (l9 - 1) a _ _ ⟨by omega, by omega, by rw [hK2, show v = lrD M c 1 0 + 1 by omega, rkA_l], rfl⟩ (by omega) hT
                                          · skip
                                            have hb12 := hTD.t12 (v := v) (by omega) (by omega)
                                            have hb6 := hTD.lev (v := v) (by omega) (by omega)
                                            have hb5 := hTD.s v (by omega) (by omega)
                                            refine j_aload_n F rfl dX3_learns_212 ?_
                                            refine t_get F hT 12 (by decide) rfl q1498 dX3_learns_213 ?_
                                            refine j_iload F rfl dX3_learns_216 ?_
                                            refine t_zaldw F hT 12 tm_12 ((lrD M c) 12 v) rfl (by omega) dX3_learns_218 ?_
                                            refine j_if_eq F 274 (by decide) (by omega) dX3_learns_219 (fun c219 => ?_) (fun c219 => ?_)
                                            · skip
                                              refine j_iinc F rfl (by decide) dX3_learns_274 ?_
                                              refine j_goto F 201 (by decide) dX3_learns_277 ?_
                                              refine j_lv (lv' := [(0, .ref x), (2, vI (ln2 (lrD M c))), (3, vI ((lrD M c) 1 1)), (4, vI a), (5, vI l9), (6, vI (v + 1))]) ⟨rfl, rfl, rfl, rfl, rfl, rfl, trivial⟩ ?_
                                              exact ih201 (v + 1) a _ _ ⟨by omega, by omega, by rw [rkA_f (fun q => by have q1 := q.1; have q2 := q.2; omega)]; exact hK2, rfl⟩ (by omega) hT
                                            · skip
                                              have hth : (lrD M c) 12 v = 1 := by omega
                                              refine j_aload_n F rfl dX3_learns_222 ?_
                                              refine t_get F hT 6 (by decide) rfl q1492 dX3_learns_223 ?_
                                              refine j_iload F rfl dX3_learns_226 ?_
                                              refine t_ialdw F hT 6 tm_6 ((lrD M c) 6 v) rfl (by omega) dX3_learns_228 ?_
                                              refine j_iload F rfl dX3_learns_229 ?_
                                              refine j_icmp_eq F 237 (by decide) (by omega) (by omega) dX3_learns_231 (fun c231 => ?_) (fun c231 => ?_)
                                              · skip
                                                have hrk : rk (lrD M c) v = a := by unfold rk; rw [c231]; exact hK2.symm
                                                have hrg := rk_rg (M := (lrD M c)) hK0 (by omega) hth
                                                have hlg : lv9 (lrD M c) v = lgk (lrD M c) a := by unfold lgk; rw [lvk_at hK0 (by omega) hth hrk]
                                                refine j_aload_n F rfl dX3_learns_237 ?_
                                                refine t_get F hT 1 (by decide) rfl q1487 dX3_learns_238 ?_
                                                refine j_sipush F (by decide) dX3_learns_241 ?_
                                                refine j_bipush F (by decide) dX3_learns_244 ?_
                                                refine j_iload_n F rfl dX3_learns_246 ?_
                                                refine j_imul F dX3_learns_247 ?_
                                                refine j_iadd F dX3_learns_248 ?_
                                                refine j_iload F rfl dX3_learns_249 ?_
                                                refine j_iadd F dX3_learns_251 ?_
                                                refine j_joinT (x := x) (M := sM (lrD M c) 1 (putL (bgR ((lrD M c) 1) 1 (ln2 (lrD M c))) ((lrD M c) 1 1) a (lgk (lrD M c)))) (G := G) (h0 := h0) 270 (fun w => w = lv9 (lrD M c) v) (fun w h hw hT => ?_) (fun Kj252 => ?_)
                                                · skip
                                                  refine t_iast F hT 1 tm_1 rfl (by omega) dX3_learns_270 (fun h hT => ?_)
                                                  refine j_iinc F rfl (by decide) dX3_learns_271 ?_
                                                  refine j_iinc F rfl (by decide) dX3_learns_274 ?_
                                                  refine j_goto F 201 (by decide) dX3_learns_277 ?_
                                                  refine j_lv (lv' := [(0, .ref x), (2, vI (ln2 (lrD M c))), (3, vI ((lrD M c) 1 1)), (4, vI (a + 1)), (5, vI l9), (6, vI (v + 1))]) ⟨rfl, rfl, rfl, rfl, rfl, rfl, trivial⟩ ?_
                                                  exact ih201 (v + 1) (a + 1) _ _ ⟨by omega, by omega, by rw [rkA_t hK0 (by omega) ⟨hth, c231⟩, ← hK2], by rw [oM_sM, putL_s (by omega) (hw.trans hlg)]⟩ (by omega) hT
                                                · skip
                                                  refine j_aload_n F rfl dX3_learns_252 ?_
                                                  refine t_get F hT 5 (by decide) rfl q1491 dX3_learns_253 ?_
                                                  refine j_iload F rfl dX3_learns_256 ?_
                                                  refine t_ialdw F hT 5 tm_5 ((lrD M c) 5 v) rfl (by omega) dX3_learns_258 ?_
                                                  refine j_if_le F 268 (by decide) (by omega) dX3_learns_259 (fun c259 => ?_) (fun c259 => ?_)
                                                  · skip
                                                    refine j_iload F rfl dX3_learns_268 ?_
                                                    exact Kj252 _ _ (by unfold lv9; first | rw [if_pos (by omega)] | rw [if_neg (by omega)]) hT
                                                  · skip
                                                    refine j_iload F rfl dX3_learns_262 ?_
                                                    refine j_ineg F dX3_learns_264 ?_
                                                    refine j_goto F 270 (by decide) dX3_learns_265 ?_
                                                    exact Kj252 _ _ (by unfold lv9; first | rw [if_pos (by omega)] | rw [if_neg (by omega)]) hT
                                              · skip
                                                refine j_goto F 274 (by decide) dX3_learns_234 ?_
                                                refine j_iinc F rfl (by decide) dX3_learns_274 ?_
                                                refine j_goto F 201 (by decide) dX3_learns_277 ?_
                                                refine j_lv (lv' := [(0, .ref x), (2, vI (ln2 (lrD M c))), (3, vI ((lrD M c) 1 1)), (4, vI a), (5, vI l9), (6, vI (v + 1))]) ⟨rfl, rfl, rfl, rfl, rfl, rfl, trivial⟩ ?_
                                                exact ih201 (v + 1) a _ _ ⟨by omega, by omega, by rw [rkA_f (fun q => by have q1 := q.1; have q2 := q.2; omega)]; exact hK2, rfl⟩ (by omega) hT
                                      refine j_lv (lv' := [(0, .ref x), (2, vI (ln2 (lrD M c))), (3, vI ((lrD M c) 1 1)), (4, vI a), (5, vI l9), (6, vI 1)]) ⟨rfl, rfl, rfl, rfl, rfl, rfl, trivial⟩ ?_
                                      exact L201 _ 1 a _ _ ⟨by omega, by omega, hI2, rfl⟩ (Nat.lt_succ_self _) hT
                                refine j_lv (lv' := [(0, .ref x), (2, vI (ln2 (lrD M c))), (3, vI ((lrD M c) 1 1)), (4, vI 0), (5, vI ((lrD M c) 11 0))]) ⟨rfl, rfl, rfl, rfl, rfl, trivial⟩ ?_
                                exact L193 _ ((lrD M c) 11 0) 0 _ _ ⟨by omega, by omega, (rkA_top (fun u u0 u1 hu => (hJD.1 u u0 u1 hu).2.2)).symm, by rw [putL_0]; exact he180⟩ (Nat.lt_succ_self _) hT
                              · skip
                                have hb12 := hTD.t12 (v := i) (by omega) (by omega)
                                refine j_iload_n F rfl dX3_learns_154 ?_
                                refine j_joinT (x := x) (M := (lrD M c)) (G := G) (h0 := h0) 169 (fun w => w = cif ((lrD M c) 12 i = 1) 1 0) (fun w h hw hT => ?_) (fun Kj155 => ?_)
                                · skip
                                  refine j_iadd F dX3_learns_169 ?_
                                  refine j_istore_n F (by decide) dX3_learns_170 ?_
                                  refine j_iinc F rfl (by decide) dX3_learns_171 ?_
                                  refine j_goto F 144 (by decide) dX3_learns_174 ?_
                                  refine j_lv (lv' := [(0, .ref x), (2, vI (a + w)), (3, vI (i + 1))]) ⟨rfl, rfl, rfl, trivial⟩ ?_
                                  exact ih144 (i + 1) (a + w) _ ⟨by omega, by omega, by rw [ctp_s hI0, ← hI2, hw]⟩ (by omega) hT
                                · skip
                                  refine j_aload_n F rfl dX3_learns_155 ?_
                                  refine t_get F hT 12 (by decide) rfl q1498 dX3_learns_156 ?_
                                  refine j_iload_n F rfl dX3_learns_159 ?_
                                  refine t_zaldw F hT 12 tm_12 ((lrD M c) 12 i) rfl (by omega) dX3_learns_160 ?_
                                  refine j_if_eq F 168 (by decide) (by omega) dX3_learns_161 (fun c161 => ?_) (fun c161 => ?_)
                                  · skip
                                    refine j_iconst F dX3_learns_168 ?_
                                    exact Kj155 _ _ (by first | (rw [cif_t (show lrD M c 12 i = 1 by omega)]) | (rw [cif_f (show ¬ lrD M c 12 i = 1 by omega)])) hT
                                  · skip
                                    refine j_iconst F dX3_learns_164 ?_
                                    refine j_goto F 169 (by decide) dX3_learns_165 ?_
                                    exact Kj155 _ _ (by first | (rw [cif_t (show lrD M c 12 i = 1 by omega)]) | (rw [cif_f (show ¬ lrD M c 12 i = 1 by omega)])) hT
                          refine j_lv (lv' := [(0, .ref x), (2, vI 0), (3, vI 1)]) ⟨rfl, rfl, rfl, trivial⟩ ?_
                          exact L144 _ 1 0 _ ⟨by omega, by omega, rfl⟩ (Nat.lt_succ_self _) hT
                        · skip
                          have hb12 := hLB.2.1 i (by omega) (by omega)
                          refine j_aload_n F rfl dX3_learns_106 ?_
                          refine t_get F hT 12 (by decide) rfl q1498 dX3_learns_107 ?_
                          refine j_iload_n F rfl dX3_learns_110 ?_
                          refine j_joinT (x := x) (M := sM (wlM (lrB M c)) 12 (dpF (wlM (lrB M c)) i)) (G := G) (h0 := h0) 133 (fun w => w = dpF (wlM (lrB M c)) (i + 1) i) (fun w h hw hT => ?_) (fun Kj111 => ?_)
                          · skip
                            have hw01 : w = 0 ∨ w = 1 := by rw [hw, dpF_at hI0]; exact cif_rg _
                            refine t_zast F hT 12 tm_12 rfl (by omega) hw01 dX3_learns_133 (fun h hT => ?_)
                            refine j_iinc F rfl (by decide) dX3_learns_134 ?_
                            refine j_goto F 96 (by decide) dX3_learns_137 ?_
                            refine j_lv (lv' := [(0, .ref x), (2, vI (i + 1))]) ⟨rfl, rfl, trivial⟩ ?_
                            exact ih96 (i + 1) _ _ ⟨by omega, by omega, by rw [oM_sM, dpF_s hI0 hw]⟩ (by omega) hT
                          · skip
                            refine j_aload_n F rfl dX3_learns_111 ?_
                            refine t_get F hT 12 (by decide) rfl q1498 dX3_learns_112 ?_
                            refine j_iload_n F rfl dX3_learns_115 ?_
                            refine t_zaldw F hT 12 tm_12 ((lrB M c) 12 i) (if_neg (by omega)) (by omega) dX3_learns_116 ?_
                            refine j_if_eq F 132 (by decide) (by omega) dX3_learns_117 (fun c117 => ?_) (fun c117 => ?_)
                            · skip
                              have hd : dpF (wlM (lrB M c)) (i + 1) i = 0 := by rw [dpF_at hI0]; exact cif_f (fun q => by have q1 : (lrB M c) 12 i = 1 := q.1; omega)
                              refine j_iconst F dX3_learns_132 ?_
                              exact Kj111 _ _ hd.symm hT
                            · skip
                              refine j_aload_n F rfl dX3_learns_120 ?_
                              refine j_iload_n F rfl dX3_learns_121 ?_
                              refine t_callI F hT (ct_X3_isDropped l G KS x _ (a := i) (by show RI ((lrB M c) 1); rw [hB1]; exact hR) (hTR.mark (fun q a b d => by rw [sM_n _ _ a]; show wlM (lrB M c) q = _; unfold wlM; rw [sM_n _ _ d]; exact lrB_q a b) (dpF_01 (M := wlM (lrB M c)) hLB.2.1 _) hLB.2.2.1 (wl_01 hLB.2.1)) (by omega) (by show (lrB M c) 7 i = -1 ∨ (0 ≤ (lrB M c) 7 i ∧ (lrB M c) 7 i < (lrB M c) 1 1); rw [hB7, hB1]; exact hK.1.rs hI0 (by omega) (by have := (hLB.1 i hI0 (by rw [hB1]; omega) (by omega)).1; rw [hB5] at this; exact this))) (by decide) (by decide) (lw_V q1713 q1715 qs72 q110 q1716) pd_X3_isDropped rfl (Nat.le_of_ble_eq_true rfl) (Nat.le_refl _) (Nat.le_refl _) dX3_learns_122 (fun v122 M' h hv122 hT => ?_)
                              obtain ⟨hv122, rfl⟩ := hv122
                              have hdd : v122 = 1 ↔ drp (wlM (lrB M c)) i := hv122.1
                              have z122 := hv122.2
                              refine j_if_ne F 132 (by decide) (by omega) dX3_learns_125 (fun c125 => ?_) (fun c125 => ?_)
                              · skip
                                have hd : dpF (wlM (lrB M c)) (i + 1) i = 0 := by rw [dpF_at hI0]; exact cif_f (fun q => q.2 (hdd.mp (by omega)))
                                refine j_iconst F dX3_learns_132 ?_
                                exact Kj111 _ _ hd.symm hT
                              · skip
                                have hd : dpF (wlM (lrB M c)) (i + 1) i = 1 := by rw [dpF_at hI0]; exact cif_t ⟨show (lrB M c) 12 i = 1 by omega, fun q => by have := hdd.mpr q; omega⟩
                                refine j_iconst F dX3_learns_128 ?_
                                refine j_goto F 133 (by decide) dX3_learns_129 ?_
                                exact Kj111 _ _ hd.symm hT
                    refine j_lv (lv' := [(0, .ref x), (2, vI 1)]) ⟨rfl, rfl, trivial⟩ ?_
                    exact L96 _ 1 _ _ ⟨by omega, by omega, by rw [dpF_1, sM_self]⟩ (Nat.lt_succ_self _) hT
                  · skip
                    have hb12 := hLB.2.1 i hI0 (by omega)
                    refine j_aload_n F rfl dX3_learns_76 ?_
                    refine t_get F hT 14 (by decide) rfl q1500 dX3_learns_77 ?_
                    refine j_iload_n F rfl dX3_learns_80 ?_
                    refine j_aload_n F rfl dX3_learns_81 ?_
                    refine t_get F hT 12 (by decide) rfl q1498 dX3_learns_82 ?_
                    refine j_iload_n F rfl dX3_learns_85 ?_
                    refine t_zaldw F hT 12 tm_12 ((lrB M c) 12 i) rfl (by omega) dX3_learns_86 ?_
                    refine t_zast F hT 14 tm_14 rfl (by omega) hb12 dX3_learns_87 (fun h hT => ?_)
                    refine j_iinc F rfl (by decide) dX3_learns_88 ?_
                    refine j_goto F 70 (by decide) dX3_learns_91 ?_
                    refine j_lv (lv' := [(0, .ref x), (1, vI c), (2, vI (i + 1))]) ⟨rfl, rfl, rfl, trivial⟩ ?_
                    exact ih70 (i + 1) _ _ ⟨by omega, by omega, by rw [oM_sM, cpy_s hI0 rfl]⟩ (by omega) hT
              refine j_lv (lv' := [(0, .ref x), (1, vI c), (2, vI 0)]) ⟨rfl, rfl, rfl, trivial⟩ ?_
              exact L70 _ 0 _ _ ⟨by omega, by omega, by rw [show (fun v : Int => if 0 ≤ v ∧ v < 0 then (lrB M c) 12 v else (lrB M c) 14 v) = (lrB M c) 14 from funext fun v => if_neg (by omega), sM_self]⟩ (Nat.lt_succ_self _) hT
            · skip
              have c39' : 1 < lnF (lrN (lrA M c) n) ((lrN (lrA M c) n) 1 0).toNat := by omega
              have hst := LI.step hCn hRn hLn c39'
              refine j_aload_n F rfl dX3_learns_42 ?_
              refine t_callI F hT (ct_X3_latest l G KS x _ hRn hTn) (by decide) (by decide) (lw_V q1709 q1711 qs71 q110 q1712) pd_X3_latest rfl (Nat.le_of_ble_eq_true rfl) (Nat.le_refl _) (Nat.le_refl _) dX3_learns_43 (fun v43 M' h hv43 hT => ?_)
              obtain ⟨hv43, rfl⟩ := hv43
              subst hv43
              refine j_istore_n F (by decide) dX3_learns_46 ?_
              refine j_aload_n F rfl dX3_learns_47 ?_
              refine t_get F hT 12 (by decide) rfl q1498 dX3_learns_48 ?_
              refine j_iload_n F rfl dX3_learns_51 ?_
              refine j_iconst F dX3_learns_52 ?_
              refine t_zast F hT 12 tm_12 rfl (by omega) (by omega) dX3_learns_53 (fun h hT => ?_)
              refine j_aload_n F rfl dX3_learns_54 ?_
              refine j_aload_n F rfl dX3_learns_55 ?_
              refine t_get F hT 7 (by decide) rfl q1493 dX3_learns_56 ?_
              refine j_iload_n F rfl dX3_learns_59 ?_
              refine t_iald F hT 7 tm_7 (by omega) dX3_learns_60 ?_
              refine j_iload_n F rfl dX3_learns_61 ?_
              refine t_callV F hT (ct_X3_brings l G KS x _ (c := (lrN (lrA M c) n) 7 (laF (lrN (lrA M c) n) ((lrN (lrA M c) n) 1 0).toNat)) (b := laF (lrN (lrA M c) n) ((lrN (lrA M c) n) 1 0).toNat) hRn (hTn.mark (fun q a b _ => oM_n _ _ _ a) (b01_0 hLn.2.1 _) hLn.2.2.1 h14n) hst.2.1 (by unfold rg; omega)) (by decide) (by decide) (lw_V q1701 q1703 qs69 q110 q1704) pd_X3_brings rfl (Nat.le_of_ble_eq_true rfl) (Nat.le_refl _) (Nat.le_refl _) dX3_learns_62 (fun M62 h hv62 hT => ?_)
              refine j_goto F 34 (by decide) dX3_learns_65 ?_
              refine j_lv (lv' := [(0, .ref x), (1, vI c)]) ⟨rfl, rfl, trivial⟩ ?_
              exact ih34 (n + 1) _ _ ⟨fun k hk => by
                by_cases e : k = n
                · rw [e, ← e1n0]; exact c39'
                · exact hJ0 k (by omega), hv62⟩ (by
                have s4 := hst.2.2.2.1
                show (lrM (lrN (lrA M c) n) 8 (laF (lrM (lrN (lrA M c) n)) (lrM (lrN (lrA M c) n) 1 0).toNat) + 1).toNat < m34
                omega) hT
        refine j_lv (lv' := [(0, .ref x), (1, vI c)]) ⟨rfl, rfl, trivial⟩ ?_
        exact L34 _ 0 _ _ ⟨fun k hk => absurd hk (Nat.not_lt_zero _), by rw [show i = 31 by omega] at hv31; exact hv31⟩ (Nat.lt_succ_self _) hT
      · skip
        refine j_aload_n F rfl dX3_learns_8 ?_
        refine t_get F hT 12 (by decide) rfl q1498 dX3_learns_9 ?_
        refine j_iload_n F rfl dX3_learns_12 ?_
        refine j_iconst F dX3_learns_13 ?_
        refine t_zast F hT 12 tm_12 rfl (by omega) (by omega) dX3_learns_14 (fun h hT => ?_)
        refine j_aload_n F rfl dX3_learns_15 ?_
        refine t_get F hT 13 (by decide) rfl q1499 dX3_learns_16 ?_
        refine j_iload_n F rfl dX3_learns_19 ?_
        refine j_iconst F dX3_learns_20 ?_
        refine t_zast F hT 13 tm_13 rfl (by omega) (by omega) dX3_learns_21 (fun h hT => ?_)
        refine j_iinc F rfl (by decide) dX3_learns_22 ?_
        refine j_goto F 2 (by decide) dX3_learns_25 ?_
        refine j_lv (lv' := [(0, .ref x), (1, vI c), (2, vI (i + 1))]) ⟨rfl, rfl, rfl, trivial⟩ ?_
        exact ih2 (i + 1) _ _ ⟨by omega, by omega, by rw [br_st, clr_s hI0, clr_s hI0]⟩ (by omega) hT
  refine j_lv (lv' := [(0, .ref x), (1, vI c), (2, vI 0)]) ⟨rfl, rfl, rfl, trivial⟩ ?_
  exact L2 _ 0 _ _ ⟨by omega, by omega, by rw [show (fun v : Int => if 0 ≤ v ∧ v < 0 then 0 else M 12 v) = M 12 from funext fun v => if_neg (by omega), show (fun v : Int => if 0 ≤ v ∧ v < 0 then 0 else M 13 v) = M 13 from funext fun v => if_neg (by omega), sM_self, sM_self]⟩ (Nat.lt_succ_self _) hT
