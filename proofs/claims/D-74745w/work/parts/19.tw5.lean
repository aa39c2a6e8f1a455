theorem br_step (M : Mt) (f g : Int → Int) (v : Int) : oM (oM (sM (sM M 12 f) 13 g) 12 v 1) 13 v 1 = sM (sM M 12 (oI f v 1)) 13 (oI g v 1) := by
  funext q
  by_cases h2 : q = 12
  · subst h2; rfl
  · by_cases h3 : q = 13
    · subst h3; rfl
    · rw [oM_n _ _ _ h3, oM_n _ _ _ h2, sM_n _ _ h3, sM_n _ _ h2, sM_n _ _ h3, sM_n _ _ h2]
theorem brF_s {M : Mt} {c b i : Int} {f : Int → Int} (hi : 0 ≤ i) : brF M c b (i + 1).toNat f = if iab (lit (M 1) c i) = b ∨ M 6 (iab (lit (M 1) c i)) = 0 then brF M c b i.toNat f else oI (brF M c b i.toNat f) (iab (lit (M 1) c i)) 1 := by
  have e : (i + 1).toNat = i.toNat + 1 := by omega
  rw [e, brF, Int.toNat_of_nonneg hi]
def bgR (R : Int → Int) (f n : Int) : Int → Int := oI (oI (oI (oI R (525 + R 1) f) (125 + R 1) n) 1 (R 1 + 1)) 2 (R 2 + (if f = 0 then 1 else 0))
/-- Luby's numbers: of i at most 2 ^ (n + 1) - 1 -/
def lubF : Nat → Int → Int
  | 0, _ => 1
  | n + 1, i => if i ≤ 2 ^ (n + 1) - 1 then lubF n i else if i = 2 * 2 ^ (n + 1) - 1 then 2 ^ (n + 1) else lubF n (i - 2 ^ (n + 1) + 1)
theorem pw_pos (n : Nat) : (1 : Int) ≤ 2 ^ n := by
  induction n with
  | zero => decide
  | succ n ih => rw [Int.pow_succ]; omega
theorem pw_le {a b : Nat} (h : a ≤ b) : (2 : Int) ^ a ≤ 2 ^ b := by
  induction b with
  | zero => rw [show a = 0 by omega]; exact Int.le_refl _
  | succ b ih =>
    by_cases e : a = b + 1
    · rw [e]; exact Int.le_refl _
    · have := ih (by omega)
      have := pw_pos b
      rw [Int.pow_succ]; omega
theorem lubF_down {j : Nat} {i : Int} (hi : i ≤ 2 ^ (j + 1) - 1) : ∀ n : Nat, j ≤ n → lubF n i = lubF j i := by
  intro n
  induction n with
  | zero => intro h; rw [show j = 0 by omega]
  | succ n ih =>
    intro h
    by_cases e : j = n + 1
    · rw [e]
    · have h1 := pw_le (show j + 1 ≤ n + 1 by omega)
      rw [lubF, if_pos (by omega)]
      exact ih (by omega)
theorem lubF_rg : ∀ (n : Nat) (i : Int), 1 ≤ lubF n i ∧ lubF n i ≤ 2 ^ n
  | 0, i => by simp [lubF]
  | n + 1, i => by
    have h1 := pw_pos n
    have h2 : (2 : Int) ^ (n + 1) = 2 ^ n * 2 := Int.pow_succ 2 n
    unfold lubF
    split
    · have := lubF_rg n i
      omega
    · split
      · omega
      · have := lubF_rg n (i - 2 ^ (n + 1) + 1)
        omega
theorem pd_X3_brings : yX3_brings.cls = RX3 ∧ yX3_brings.cls ≠ "java/lang/invoke/MethodHandle" ∧ yX3_brings.cls ≠ "java/lang/invoke/VarHandle" ∧ (parseMethodDescriptor yX3_brings.desc).map (fun d => d.parameters.length) = some 2 := by decide +kernel
theorem ct_X3_brings (l : Launch) (G : Gt) (KS : Ks l G) (x : Nat) (M : Mt) {c b : Int} (hR : RI (M 1)) (hTR : TR M) (hc : 0 ≤ c ∧ c < M 1 1) (hb : rg b) : TV l G yX3_brings cX3_brings 5 2 x [vI c, vI b] M (fun M' => M' = brM M c b) := by
  intro h0 h hT
  refine ct_of KS (by decide) (Nat.le_of_ble_eq_true rfl) (fun X F E => ?_)
  refine j_lv (lv' := [(0, .ref x), (1, vI c), (2, vI b)]) ⟨rfl, rfl, rfl, trivial⟩ ?_
  have hm := hR.many
  have hcl := hR.cl hc.1 hc.2
  have hsz : siz (M 1) c = M 1 (125 + c) := rfl
  unfold rg at hb
  refine j_iconst F dX3_brings_0 ?_
  refine j_istore_n F (by decide) dX3_brings_1 ?_
  have L2 : ∀ (m2 : Nat) (i : Int) (N : Mt) (h : Hp), (0 ≤ i ∧ i ≤ siz (M 1) c ∧ N = sM (sM M 12 (brF M c b i.toNat (M 12))) 13 (brF M c b i.toNat (M 13))) → (siz (M 1) c - i).toNat < m2 → Tw G x N h0 h → J X h 2 [(0, .ref x), (1, vI c), (2, vI b), (3, vI i)] [] 0 0 := by
    intro m2
    induction m2 with
    | zero => intro i N h hI hm2 hT; exact absurd hm2 (Nat.not_lt_zero _)
    | succ m2 ih2 =>
      intro i N h hI hm2 hT
      obtain ⟨hI0, hI1, hI2⟩ := hI
      subst hI2
      refine j_iload_n F rfl dX3_brings_2 ?_
      refine j_aload_n F rfl dX3_brings_3 ?_
      refine j_iload_n F rfl dX3_brings_4 ?_
      refine t_callI F hT (ct_X3_sizeOf l G KS x _ (c := c) (by omega)) (by decide) (by decide) (lw_V q1641 q1643 qs57 q110 q1644) pd_X3_sizeOf rfl (Nat.le_of_ble_eq_true rfl) (Nat.le_refl _) (Nat.le_refl _) dX3_brings_5 (fun v5 M' h hv5 hT => ?_)
      obtain ⟨hv5, rfl⟩ := hv5
      have e5 : v5 = siz (M 1) c := hv5
      subst e5
      refine j_icmp_ge F 63 (by decide) (by omega) (by omega) dX3_brings_8 (fun c8 => ?_) (fun c8 => ?_)
      · skip
        exact j_vret F E (Nat.zero_le _) (Nat.zero_le _) dX3_brings_63 (tv_post hT (by unfold brM; rw [show siz (M 1) c = i by omega]))
      · skip
        have hlr := (hR.ll hc.1 hc.2 hI0 (by omega)).2
        have hlk := (hR.cl hc.1 hc.2).2.2.2.2 i hI0 (by omega)
        have hia := iab_lok hlk
        have hV := hR.V
        have h6 := hTR.lev (v := iab (lit (M 1) c i)) (by omega) (by omega)
        refine j_aload_n F rfl dX3_brings_11 ?_
        refine j_iload_n F rfl dX3_brings_12 ?_
        refine j_iload_n F rfl dX3_brings_13 ?_
        refine t_callI F hT (ct_X3_literal l G KS x _ (c := c) (k := i) (by omega) (by omega)) (by decide) (by decide) (lw_V q1685 q1687 qs65 q110 q1688) pd_X3_literal rfl (Nat.le_of_ble_eq_true rfl) (Nat.le_refl _) (Nat.le_refl _) dX3_brings_14 (fun v14 M' h hv14 hT => ?_)
        obtain ⟨hv14, rfl⟩ := hv14
        have e14 : v14 = lit (M 1) c i := hv14
        subst e14
        refine s_callI F (ct_X3_size l G KS (a := lit (M 1) c i) (by unfold rg; omega)) (by decide) (by decide) (lw_S q1591 q1592 q110 q1593) pd_X3_size rfl (Nat.le_of_ble_eq_true rfl) (Nat.le_refl _) (Nat.le_refl _) dX3_brings_17 (fun v17 hv17 => ?_)
        subst hv17
        refine j_istore F (by decide) dX3_brings_20 ?_
        refine j_iload F rfl dX3_brings_22 ?_
        refine j_iload_n F rfl dX3_brings_24 ?_
        refine j_icmp_eq F 57 (by decide) (by omega) (by omega) dX3_brings_25 (fun c25 => ?_) (fun c25 => ?_)
        · skip
          refine j_iinc F rfl (by decide) dX3_brings_57 ?_
          refine j_goto F 2 (by decide) dX3_brings_60 ?_
          refine j_lv (lv' := [(0, .ref x), (1, vI c), (2, vI b), (3, vI (i + 1))]) ⟨rfl, rfl, rfl, rfl, trivial⟩ ?_
          exact ih2 (i + 1) _ _ ⟨by omega, by omega, by first | (rw [brF_s hI0, if_neg (by omega), brF_s hI0, if_neg (by omega)]; exact br_step _ _ _ _) | rw [brF_s hI0, if_pos (by omega), brF_s hI0, if_pos (by omega)]⟩ (by omega) hT
        · skip
          refine j_aload_n F rfl dX3_brings_28 ?_
          refine t_get F hT 6 (by decide) rfl q1492 dX3_brings_29 ?_
          refine j_iload F rfl dX3_brings_32 ?_
          refine t_ialdw F hT 6 tm_6 (M 6 (iab (lit (M 1) c i))) rfl (by omega) dX3_brings_34 ?_
          refine j_if_ne F 41 (by decide) (by omega) dX3_brings_35 (fun c35 => ?_) (fun c35 => ?_)
          · skip
            refine j_aload_n F rfl dX3_brings_41 ?_
            refine t_get F hT 12 (by decide) rfl q1498 dX3_brings_42 ?_
            refine j_iload F rfl dX3_brings_45 ?_
            refine j_iconst F dX3_brings_47 ?_
            refine t_zast F hT 12 tm_12 rfl (by omega) (by omega) dX3_brings_48 (fun h hT => ?_)
            refine j_aload_n F rfl dX3_brings_49 ?_
            refine t_get F hT 13 (by decide) rfl q1499 dX3_brings_50 ?_
            refine j_iload F rfl dX3_brings_53 ?_
            refine j_iconst F dX3_brings_55 ?_
            refine t_zast F hT 13 tm_13 rfl (by omega) (by omega) dX3_brings_56 (fun h hT => ?_)
            refine j_iinc F rfl (by decide) dX3_brings_57 ?_
            refine j_goto F 2 (by decide) dX3_brings_60 ?_
            refine j_lv (lv' := [(0, .ref x), (1, vI c), (2, vI b), (3, vI (i + 1))]) ⟨rfl, rfl, rfl, rfl, trivial⟩ ?_
            exact ih2 (i + 1) _ _ ⟨by omega, by omega, by first | (rw [brF_s hI0, if_neg (by omega), brF_s hI0, if_neg (by omega)]; exact br_step _ _ _ _) | rw [brF_s hI0, if_pos (by omega), brF_s hI0, if_pos (by omega)]⟩ (by omega) hT
          · skip
            refine j_goto F 57 (by decide) dX3_brings_38 ?_
            refine j_iinc F rfl (by decide) dX3_brings_57 ?_
            refine j_goto F 2 (by decide) dX3_brings_60 ?_
            refine j_lv (lv' := [(0, .ref x), (1, vI c), (2, vI b), (3, vI (i + 1))]) ⟨rfl, rfl, rfl, rfl, trivial⟩ ?_
            exact ih2 (i + 1) _ _ ⟨by omega, by omega, by first | (rw [brF_s hI0, if_neg (by omega), brF_s hI0, if_neg (by omega)]; exact br_step _ _ _ _) | rw [brF_s hI0, if_pos (by omega), brF_s hI0, if_pos (by omega)]⟩ (by omega) hT
  refine j_lv (lv' := [(0, .ref x), (1, vI c), (2, vI b), (3, vI 0)]) ⟨rfl, rfl, rfl, rfl, trivial⟩ ?_
  exact L2 _ 0 _ _ ⟨by omega, by omega, by rw [show ((0 : Int).toNat) = 0 from rfl, brF, brF, sM_self]; exact (sM_self M 13).symm⟩ (Nat.lt_succ_self _) hT

theorem pd_X3_isDropped : yX3_isDropped.cls = RX3 ∧ yX3_isDropped.cls ≠ "java/lang/invoke/MethodHandle" ∧ yX3_isDropped.cls ≠ "java/lang/invoke/VarHandle" ∧ (parseMethodDescriptor yX3_isDropped.desc).map (fun d => d.parameters.length) = some 1 := by decide +kernel
theorem ct_X3_isDropped (l : Launch) (G : Gt) (KS : Ks l G) (x : Nat) (M : Mt) {a : Int} (hR : RI (M 1)) (hTR : TR M) (ha : 1 ≤ a ∧ a ≤ 30) (hrs : M 7 a = -1 ∨ (0 ≤ M 7 a ∧ M 7 a < M 1 1)) : TI l G yX3_isDropped cX3_isDropped 4 (some FieldType.boolean) 2 x [vI a] M (fun v M' => ((v = 1 ↔ drp M a) ∧ (v = 0 ∨ v = 1)) ∧ M = M') := by
  intro h0 h hT
  refine ct_of KS (by decide) (Nat.le_of_ble_eq_true rfl) (fun X F E => ?_)
  refine j_lv (lv' := [(0, .ref x), (1, vI a)]) ⟨rfl, rfl, trivial⟩ ?_
  have hl := hTR.lvl
  have h6 := hTR.lev (v := a) (by omega) (by omega)
  have h7 := hTR.rea (v := a) (by omega) (by omega)
  have hm := hR.many
  have hV := hR.V
  refine j_aload_n F rfl dX3_isDropped_0 ?_
  refine t_get F hT 6 (by decide) rfl q1492 dX3_isDropped_1 ?_
  refine j_iload_n F rfl dX3_isDropped_4 ?_
  refine t_iald F hT 6 tm_6 (by omega) dX3_isDropped_5 ?_
  refine j_aload_n F rfl dX3_isDropped_6 ?_
  refine t_get F hT 11 (by decide) rfl q1497 dX3_isDropped_7 ?_
  refine j_icmp_eq F 23 (by decide) (by omega) (by omega) dX3_isDropped_10 (fun c10 => ?_) (fun c10 => ?_)
  · skip
    refine j_iconst F dX3_isDropped_23 ?_
    exact j_zret F E (by omega) (Nat.zero_le _) (Nat.zero_le _) dX3_isDropped_24 (ti_post hT ⟨⟨⟨fun q => by omega, fun q => absurd q.1 (by omega)⟩, by omega⟩, rfl⟩)
  · skip
    refine j_aload_n F rfl dX3_isDropped_13 ?_
    refine t_get F hT 7 (by decide) rfl q1493 dX3_isDropped_14 ?_
    refine j_iload_n F rfl dX3_isDropped_17 ?_
    refine t_iald F hT 7 tm_7 (by omega) dX3_isDropped_18 ?_
    refine j_iconst F dX3_isDropped_19 ?_
    refine j_icmp_ne F 25 (by decide) (by omega) (by omega) dX3_isDropped_20 (fun c20 => ?_) (fun c20 => ?_)
    · skip
      have hcl := hR.cl (c := M 7 a) (by omega) (by omega)
      have hsz : siz (M 1) (M 7 a) = M 1 (125 + M 7 a) := rfl
      refine j_iconst F dX3_isDropped_25 ?_
      refine j_istore_n F (by decide) dX3_isDropped_26 ?_
      have L27 : ∀ (m27 : Nat) (i : Int) (h : Hp), (0 ≤ i ∧ i ≤ siz (M 1) (M 7 a) ∧ ∀ k : Int, 0 ≤ k → k < i → ¬ (iab (lit (M 1) (M 7 a) k) ≠ a ∧ 0 < M 6 (iab (lit (M 1) (M 7 a) k)) ∧ M 14 (iab (lit (M 1) (M 7 a) k)) = 0)) → (siz (M 1) (M 7 a) - i).toNat < m27 → Tw G x M h0 h → J X h 27 [(0, .ref x), (1, vI a), (2, vI i)] [] 0 0 := by
        intro m27
        induction m27 with
        | zero => intro i h hI hm27 hT; exact absurd hm27 (Nat.not_lt_zero _)
        | succ m27 ih27 =>
          intro i h hI hm27 hT
          obtain ⟨hI0, hI1, hI2⟩ := hI
          refine j_iload_n F rfl dX3_isDropped_27 ?_
          refine j_aload_n F rfl dX3_isDropped_28 ?_
          refine j_aload_n F rfl dX3_isDropped_29 ?_
          refine t_get F hT 7 (by decide) rfl q1493 dX3_isDropped_30 ?_
          refine j_iload_n F rfl dX3_isDropped_33 ?_
          refine t_iald F hT 7 tm_7 (by omega) dX3_isDropped_34 ?_
          refine t_callI F hT (ct_X3_sizeOf l G KS x M (c := M 7 a) (by omega)) (by decide) (by decide) (lw_V q1641 q1643 qs57 q110 q1644) pd_X3_sizeOf rfl (Nat.le_of_ble_eq_true rfl) (Nat.le_refl _) (Nat.le_refl _) dX3_isDropped_35 (fun v35 M' h hv35 hT => ?_)
          obtain ⟨hv35, rfl⟩ := hv35
          subst hv35
          refine j_icmp_ge F 87 (by decide) (by omega) (by omega) dX3_isDropped_38 (fun c38 => ?_) (fun c38 => ?_)
          · skip
            refine j_iconst F dX3_isDropped_87 ?_
            exact j_zret F E (by omega) (Nat.zero_le _) (Nat.zero_le _) dX3_isDropped_88 (ti_post hT ⟨⟨⟨fun _ => ⟨by omega, fun k k0 k1 => hI2 k k0 (by omega)⟩, fun _ => rfl⟩, by omega⟩, rfl⟩)
          · skip
            have hlr := (hR.ll (c := M 7 a) (by omega) (by omega) hI0 (by omega)).2
            have hlk := hcl.2.2.2.2 i hI0 (by omega)
            have hia := iab_lok hlk
            have h66 := hTR.lev (v := iab (lit (M 1) (M 7 a) i)) (by omega) (by omega)
            have h14 := hTR.t14 (v := iab (lit (M 1) (M 7 a) i)) (by omega) (by omega)
            refine j_aload_n F rfl dX3_isDropped_41 ?_
            refine j_aload_n F rfl dX3_isDropped_42 ?_
            refine t_get F hT 7 (by decide) rfl q1493 dX3_isDropped_43 ?_
            refine j_iload_n F rfl dX3_isDropped_46 ?_
            refine t_iald F hT 7 tm_7 (by omega) dX3_isDropped_47 ?_
            refine j_iload_n F rfl dX3_isDropped_48 ?_
            refine t_callI F hT (ct_X3_literal l G KS x M (c := M 7 a) (k := i) (by omega) (by omega)) (by decide) (by decide) (lw_V q1685 q1687 qs65 q110 q1688) pd_X3_literal rfl (Nat.le_of_ble_eq_true rfl) (Nat.le_refl _) (Nat.le_refl _) dX3_isDropped_49 (fun v49 M' h hv49 hT => ?_)
            obtain ⟨hv49, rfl⟩ := hv49
            have e49 : v49 = lit (M 1) (M 7 a) i := hv49
            subst e49
            refine s_callI F (ct_X3_size l G KS (a := lit (M 1) (M 7 a) i) (by unfold rg; omega)) (by decide) (by decide) (lw_S q1591 q1592 q110 q1593) pd_X3_size rfl (Nat.le_of_ble_eq_true rfl) (Nat.le_refl _) (Nat.le_refl _) dX3_isDropped_52 (fun v52 hv52 => ?_)
            subst hv52
            refine j_istore_n F (by decide) dX3_isDropped_55 ?_
            refine j_iload_n F rfl dX3_isDropped_56 ?_
            refine j_iload_n F rfl dX3_isDropped_57 ?_
            refine j_icmp_eq F 81 (by decide) (by omega) (by omega) dX3_isDropped_58 (fun c58 => ?_) (fun c58 => ?_)
            · skip
              refine j_iinc F rfl (by decide) dX3_isDropped_81 ?_
              refine j_goto F 27 (by decide) dX3_isDropped_84 ?_
              refine j_lv (lv' := [(0, .ref x), (1, vI a), (2, vI (i + 1))]) ⟨rfl, rfl, rfl, trivial⟩ ?_
              exact ih27 (i + 1) _ ⟨by omega, by omega, fun k c0 c1 => if e : k = i then (by rw [e]; omega) else hI2 k c0 (by omega)⟩ (by omega) hT
            · skip
              refine j_aload_n F rfl dX3_isDropped_61 ?_
              refine t_get F hT 6 (by decide) rfl q1492 dX3_isDropped_62 ?_
              refine j_iload_n F rfl dX3_isDropped_65 ?_
              refine t_iald F hT 6 tm_6 (by omega) dX3_isDropped_66 ?_
              refine j_if_le F 81 (by decide) (by omega) dX3_isDropped_67 (fun c67 => ?_) (fun c67 => ?_)
              · skip
                refine j_iinc F rfl (by decide) dX3_isDropped_81 ?_
                refine j_goto F 27 (by decide) dX3_isDropped_84 ?_
                refine j_lv (lv' := [(0, .ref x), (1, vI a), (2, vI (i + 1))]) ⟨rfl, rfl, rfl, trivial⟩ ?_
                exact ih27 (i + 1) _ ⟨by omega, by omega, fun k c0 c1 => if e : k = i then (by rw [e]; omega) else hI2 k c0 (by omega)⟩ (by omega) hT
              · skip
                refine j_aload_n F rfl dX3_isDropped_70 ?_
                refine t_get F hT 14 (by decide) rfl q1500 dX3_isDropped_71 ?_
                refine j_iload_n F rfl dX3_isDropped_74 ?_
                refine t_zald F hT 14 tm_14 (by omega) dX3_isDropped_75 ?_
                refine j_if_ne F 81 (by decide) (by omega) dX3_isDropped_76 (fun c76 => ?_) (fun c76 => ?_)
                · skip
                  refine j_iinc F rfl (by decide) dX3_isDropped_81 ?_
                  refine j_goto F 27 (by decide) dX3_isDropped_84 ?_
                  refine j_lv (lv' := [(0, .ref x), (1, vI a), (2, vI (i + 1))]) ⟨rfl, rfl, rfl, trivial⟩ ?_
                  exact ih27 (i + 1) _ ⟨by omega, by omega, fun k c0 c1 => if e : k = i then (by rw [e]; omega) else hI2 k c0 (by omega)⟩ (by omega) hT
                · skip
                  refine j_iconst F dX3_isDropped_79 ?_
                  exact j_zret F E (by omega) (Nat.zero_le _) (Nat.zero_le _) dX3_isDropped_80 (ti_post hT ⟨⟨⟨fun q => by omega, fun q => absurd ⟨by omega, by omega, by omega⟩ (q.2 i hI0 (by omega))⟩, by omega⟩, rfl⟩)
      refine j_lv (lv' := [(0, .ref x), (1, vI a), (2, vI 0)]) ⟨rfl, rfl, rfl, trivial⟩ ?_
      exact L27 _ 0 _ ⟨by omega, by omega, fun k k0 k1 => by omega⟩ (Nat.lt_succ_self _) hT
    · skip
      refine j_iconst F dX3_isDropped_23 ?_
      exact j_zret F E (by omega) (Nat.zero_le _) (Nat.zero_le _) dX3_isDropped_24 (ti_post hT ⟨⟨⟨fun q => by omega, fun q => absurd q.1 (by omega)⟩, by omega⟩, rfl⟩)

theorem pd_X3_begins : yX3_begins.cls = RX3 ∧ yX3_begins.cls ≠ "java/lang/invoke/MethodHandle" ∧ yX3_begins.cls ≠ "java/lang/invoke/VarHandle" ∧ (parseMethodDescriptor yX3_begins.desc).map (fun d => d.parameters.length) = some 2 := by decide +kernel
theorem ct_X3_begins (l : Launch) (G : Gt) (KS : Ks l G) (x : Nat) (M : Mt) {f n : Int} (hf : rg f) (hm : 0 ≤ M 1 1 ∧ M 1 1 < 400) : TI l G yX3_begins cX3_begins 4 (some FieldType.int) 1 x [vI f, vI n] M (fun v M' => v = M 1 1 ∧ M' = sM M 1 (bgR (M 1) f n)) := by
  intro h0 h hT
  refine ct_of KS (by decide) (Nat.le_of_ble_eq_true rfl) (fun X F E => ?_)
  refine j_lv (lv' := [(0, .ref x), (1, vI f), (2, vI n)]) ⟨rfl, rfl, rfl, trivial⟩ ?_
  unfold rg at hf
  refine j_aload_n F rfl dX3_begins_0 ?_
  refine t_get F hT 1 (by decide) rfl q1487 dX3_begins_1 ?_
  refine j_iconst F dX3_begins_4 ?_
  refine t_iald F hT 1 tm_1 (by omega) dX3_begins_5 ?_
  refine j_istore_n F (by decide) dX3_begins_6 ?_
  refine j_aload_n F rfl dX3_begins_7 ?_
  refine t_get F hT 1 (by decide) rfl q1487 dX3_begins_8 ?_
  refine j_sipush F (by decide) dX3_begins_11 ?_
  refine j_iload_n F rfl dX3_begins_14 ?_
  refine j_iadd F dX3_begins_15 ?_
  refine j_iload_n F rfl dX3_begins_16 ?_
  refine t_iast F hT 1 tm_1 rfl (by omega) dX3_begins_17 (fun h hT => ?_)
  refine j_aload_n F rfl dX3_begins_18 ?_
  refine t_get F hT 1 (by decide) rfl q1487 dX3_begins_19 ?_
  refine j_bipush F (by decide) dX3_begins_22 ?_
  refine j_iload_n F rfl dX3_begins_24 ?_
  refine j_iadd F dX3_begins_25 ?_
  refine j_iload_n F rfl dX3_begins_26 ?_
  refine t_iast F hT 1 tm_1 rfl (by omega) dX3_begins_27 (fun h hT => ?_)
  refine j_aload_n F rfl dX3_begins_28 ?_
  refine t_get F hT 1 (by decide) rfl q1487 dX3_begins_29 ?_
  refine j_iconst F dX3_begins_32 ?_
  refine j_dup2 F rfl rfl dX3_begins_33 ?_
  refine t_ialdw F hT 1 tm_1 (M 1 1) (by rw [oM_s, oI_n _ _ (by omega), oM_s, oI_n _ _ (by omega)]) (by omega) dX3_begins_34 ?_
  refine j_iconst F dX3_begins_35 ?_
  refine j_iadd F dX3_begins_36 ?_
  refine t_iast F hT 1 tm_1 rfl (by omega) dX3_begins_37 (fun h hT => ?_)
  refine j_aload_n F rfl dX3_begins_38 ?_
  refine t_get F hT 1 (by decide) rfl q1487 dX3_begins_39 ?_
  refine j_iconst F dX3_begins_42 ?_
  refine j_dup2 F rfl rfl dX3_begins_43 ?_
  refine t_ialdw F hT 1 tm_1 (M 1 2) (by rw [oM_s, oI_n _ _ (by omega), oM_s, oI_n _ _ (by omega), oM_s, oI_n _ _ (by omega)]) (by omega) dX3_begins_44 ?_
  refine j_joinT (x := x) (M := oM (oM (oM M 1 (525 + M 1 1) f) 1 (125 + M 1 1) n) 1 1 (M 1 1 + 1)) (G := G) (h0 := h0) 54 (fun w => w = if f = 0 then 1 else 0) (fun w h hw hT => ?_) (fun Kj45 => ?_)
  · skip
    refine j_iadd F dX3_begins_54 ?_
    refine t_iast F hT 1 tm_1 rfl (by omega) dX3_begins_55 (fun h hT => ?_)
    refine j_iload_n F rfl dX3_begins_56 ?_
    exact j_iret F E (Nat.zero_le _) (Nat.zero_le _) dX3_begins_57 (ti_post hT ⟨rfl, by subst hw; simp only [oM_eq, sM_s, sM_sM]; rfl⟩)
  · skip
    refine j_iload_n F rfl dX3_begins_45 ?_
    refine j_if_ne F 53 (by decide) (by omega) dX3_begins_46 (fun c46 => ?_) (fun c46 => ?_)
    · skip
      refine j_iconst F dX3_begins_53 ?_
      exact Kj45 _ _ (by split <;> omega) hT
    · skip
      refine j_iconst F dX3_begins_49 ?_
      refine j_goto F 54 (by decide) dX3_begins_50 ?_
      exact Kj45 _ _ (by split <;> omega) hT
