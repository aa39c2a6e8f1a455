/-- over any row of literals g, n of them: how many are open, none being true; the first open one -/
noncomputable def opG (s g : Int → Int) (n : Int) : Int := cif (∃ k : Int, 0 ≤ k ∧ k < n ∧ 0 < trv s (g k)) 31 (cnt (fun k => trv s (g k)) 0 n.toNat)
noncomputable def ooG (s g : Int → Int) (n : Int) : Int := cif (lst (fun k => trv s (g k) = 0) n = -1) 0 (g (lst (fun k => trv s (g k) = 0) n))
theorem opn_G (R s : Int → Int) (c : Int) : opn R s c = opG s (lit R c) (siz R c) := rfl
theorem opo_G (R s : Int → Int) (c : Int) : opo R s c = ooG s (lit R c) (siz R c) := rfl
theorem cnt_pos {f : Int → Int} {v : Int} : ∀ n : Nat, 0 < cnt f v n → ∃ k : Int, 0 ≤ k ∧ k < n ∧ f k = v
  | 0, h => by simp [cnt] at h
  | n + 1, h => by
    unfold cnt at h
    split at h
    · rename_i q
      exact ⟨n, by omega, by omega, q⟩
    · obtain ⟨k, k0, k1, k2⟩ := cnt_pos (f := f) (v := v) n (by omega)
      exact ⟨k, k0, by omega, k2⟩
theorem cnt_zero {f : Int → Int} {v : Int} {k : Int} (k0 : 0 ≤ k) (hk : f k = v) : ∀ n : Nat, k < n → 0 < cnt f v n
  | 0, h => by omega
  | n + 1, h => by
    have := cnt_rg f v n
    unfold cnt
    by_cases e : k = n
    · rw [e] at hk
      rw [if_pos hk]; omega
    · have := cnt_zero k0 hk n (by omega)
      split <;> omega
/-- one open: all others are false -/
theorem opG_1 {s g : Int → Int} {n : Int} (hn : 0 ≤ n) (h : opG s g n = 1) : (∀ k : Int, 0 ≤ k → k < n → ¬ 0 < trv s (g k)) ∧ cnt (fun k => trv s (g k)) 0 n.toNat = 1 ∧ ∃ k : Int, 0 ≤ k ∧ k < n ∧ trv s (g k) = 0 ∧ ooG s g n = g k := by
  have hno : ¬ ∃ k : Int, 0 ≤ k ∧ k < n ∧ 0 < trv s (g k) := fun q => by unfold opG at h; rw [cif_t q] at h; omega
  have hc : cnt (fun k => trv s (g k)) 0 n.toNat = 1 := by unfold opG at h; rw [cif_f hno] at h; exact h
  obtain ⟨k, k0, k1, k2⟩ := cnt_pos n.toNat (show 0 < cnt (fun k => trv s (g k)) 0 n.toNat by omega)
  refine ⟨fun k k0 k1 k2 => hno ⟨k, k0, k1, k2⟩, hc, ?_⟩
  rcases lst_cases (fun k => trv s (g k) = 0) n with ⟨q1, q2⟩ | ⟨q0, q1, q2, q3⟩
  · exact absurd k2 (q2 k k0 (by omega))
  · refine ⟨_, q0, q1, q2, ?_⟩
    unfold ooG
    rw [cif_f (by omega)]
theorem opo_lok {R s : Int → Int} (hR : RI R) {c : Int} (c0 : 0 ≤ c) (c1 : c < R 1) (h : opn R s c = 1) : lok (R 0) (opo R s c) := by
  have hcl := hR.cl c0 c1
  obtain ⟨-, -, k, k0, k1, -, e⟩ := opG_1 (by omega) (show opG s (lit R c) (siz R c) = 1 from h)
  rw [opo_G, e]
  exact hcl.2.2.2.2 k k0 k1
theorem lok_30 {V a : Int} (hV : V ≤ 30) (h : lok V a) : lok 30 a := by unfold lok at *; omega
noncomputable def dfM (M : Mt) (c : Int) : Mt := cif (opn (M 1) (M 5) c = 1) (cmM M (opo (M 1) (M 5) c) c) M
def drv (n : Int) : Int := if n = 0 then 2 else if n = 1 then 1 else 0
/-- a line that was read: its literals, how many -/
def rdG (M : Mt) (k : Int) : Int → Int := fun i => M 18 (M 19 k + i)
def rdN (M : Mt) (k : Int) : Int := M 19 (k + 1) - M 19 k
noncomputable def drM (M : Mt) (k : Int) : Mt := cif (opG (M 5) (rdG M k) (rdN M k) = 1) (cmM M (ooG (M 5) (rdG M k) (rdN M k)) (-1)) M
/-- the last open one so far -/
def laG (s g : Int → Int) : Nat → Int
  | 0 => 0
  | n + 1 => if trv s (g n) = 0 then g n else laG s g n
theorem laG_s {s g : Int → Int} {i : Int} (hi : 0 ≤ i) : laG s g (i + 1).toNat = if trv s (g i) = 0 then g i else laG s g i.toNat := by
  have e : (i + 1).toNat = i.toNat + 1 := by omega
  rw [e, laG, Int.toNat_of_nonneg hi]
theorem laG_0 {s g : Int → Int} : ∀ n : Nat, cnt (fun k => trv s (g k)) 0 n = 0 → laG s g n = 0
  | 0, _ => rfl
  | n + 1, h => by
    have h1 := cnt_rg (fun k => trv s (g k)) 0 n
    unfold cnt at h
    unfold laG
    split at h
    · omega
    · rename_i q
      rw [if_neg q]
      exact laG_0 n (by omega)
theorem laG_1 {s g : Int → Int} {k : Int} (k0 : 0 ≤ k) (hk : trv s (g k) = 0) : ∀ n : Nat, k < n → cnt (fun k => trv s (g k)) 0 n = 1 → laG s g n = g k
  | 0, h, _ => by omega
  | n + 1, h, hc => by
    unfold laG
    have h1 := cnt_rg (fun k => trv s (g k)) 0 n
    unfold cnt at hc
    by_cases e : k = n
    · rw [e] at hk
      rw [if_pos hk, e]
    · have h2 := cnt_zero (f := fun k => trv s (g k)) (v := 0) k0 hk n (by omega)
      split at hc
      · omega
      · rename_i q
        rw [if_neg q]
        exact laG_1 k0 hk n (by omega) (by omega)
theorem pd_X3_models : yX3_models.cls = RX3 ∧ yX3_models.cls ≠ "java/lang/invoke/MethodHandle" ∧ yX3_models.cls ≠ "java/lang/invoke/VarHandle" ∧ (parseMethodDescriptor yX3_models.desc).map (fun d => d.parameters.length) = some 0 := by decide +kernel
theorem ct_X3_models (l : Launch) (G : Gt) (KS : Ks l G) (x : Nat) (M : Mt) (hR : RI (M 1)) : TI l G yX3_models cX3_models 3 (some FieldType.int) 3 x [] M (fun v M' => tsm M M' ∧ M' 1 = M 1 ∧ (12 < M 1 0 → v = -1) ∧ (¬ 12 < M 1 0 → v = mdN (M 1) (shl9 1 (M 1 0)).toNat)) := by
  intro h0 h hT
  refine ct_of KS (by decide) (Nat.le_of_ble_eq_true rfl) (fun X F E => ?_)
  refine j_lv (lv' := [(0, .ref x)]) ⟨rfl, trivial⟩ ?_
  have hV := hR.V
  refine j_aload_n F rfl dX3_models_0 ?_
  refine j_iconst F dX3_models_1 ?_
  refine t_put F hT 0 (by decide) rfl rfl rfl (by decide) q1486 dX3_models_2 (fun h hT => ?_)
  refine j_aload_n F rfl dX3_models_5 ?_
  refine t_get F hT 1 (by decide) rfl q1487 dX3_models_6 ?_
  refine j_iconst F dX3_models_9 ?_
  refine t_ialdw F hT 1 tm_1 (M 1 0) rfl (by omega) dX3_models_10 ?_
  refine j_bipush F (by decide) dX3_models_11 ?_
  refine j_icmp_le F 18 (by decide) (by omega) (by omega) dX3_models_13 (fun c13 => ?_) (fun c13 => ?_)
  · skip
    have hsh := shl_rg (V := M 1 0) (by omega)
    refine j_iconst F dX3_models_18 ?_
    refine j_istore_n F (by decide) dX3_models_19 ?_
    refine j_iconst F dX3_models_20 ?_
    refine j_istore_n F (by decide) dX3_models_21 ?_
    have L22 : ∀ (m22 : Nat) (i nn : Int) (h : Hp), (0 ≤ i ∧ i ≤ shl9 1 (M 1 0) ∧ nn = mdN (M 1) i.toNat) → (shl9 1 (M 1 0) - i).toNat < m22 → Tw G x (oM M 0 0 0) h0 h → J X h 22 [(0, .ref x), (1, vI nn), (2, vI i)] [] 0 0 := by
      intro m22
      induction m22 with
      | zero => intro i nn h hI hm22 hT; exact absurd hm22 (Nat.not_lt_zero _)
      | succ m22 ih22 =>
        intro i nn h hI hm22 hT
        obtain ⟨hI0, hI1, hI2⟩ := hI
        have hnr := mdN_rg (M 1) i.toNat
        refine j_iload_n F rfl dX3_models_22 ?_
        refine j_iconst F dX3_models_23 ?_
        refine j_aload_n F rfl dX3_models_24 ?_
        refine t_get F hT 1 (by decide) rfl q1487 dX3_models_25 ?_
        refine j_iconst F dX3_models_28 ?_
        refine t_ialdw F hT 1 tm_1 (M 1 0) rfl (by omega) dX3_models_29 ?_
        refine j_ishl F _ (shl9_e _ _) dX3_models_30 ?_
        refine j_icmp_ge F 56 (by decide) (by omega) (by omega) dX3_models_31 (fun c31 => ?_) (fun c31 => ?_)
        · skip
          refine j_iload_n F rfl dX3_models_56 ?_
          exact j_iret F E (Nat.zero_le _) (Nat.zero_le _) dX3_models_57 (ti_post hT ⟨⟨rfl, rfl, rfl, rfl, rfl, rfl⟩, rfl, fun q => absurd q (by omega), fun _ => by rw [hI2, show shl9 1 (M 1 0) = i by omega]⟩)
        · skip
          refine j_iload_n F rfl dX3_models_34 ?_
          refine j_joinT (x := x) (M := (oM M 0 0 0)) (G := G) (h0 := h0) 48 (fun w => w = cif (mdl (M 1) i) 1 0) (fun w h hw hT => ?_) (fun Kj35 => ?_)
          · skip
            refine j_iadd F dX3_models_48 ?_
            refine j_istore_n F (by decide) dX3_models_49 ?_
            refine j_iinc F rfl (by decide) dX3_models_50 ?_
            refine j_goto F 22 (by decide) dX3_models_53 ?_
            refine j_lv (lv' := [(0, .ref x), (1, vI (nn + w)), (2, vI (i + 1))]) ⟨rfl, rfl, rfl, trivial⟩ ?_
            exact ih22 (i + 1) (nn + w) _ ⟨by omega, by omega, by rw [mdN_s hI0, hI2, hw]⟩ (by omega) hT
          · skip
            refine j_aload_n F rfl dX3_models_35 ?_
            refine j_iload_n F rfl dX3_models_36 ?_
            refine t_callI F hT (ct_X3_isModel l G KS x _ (a := i) hR) (by decide) (by decide) (lw_V q1852 q1854 qs94 q110 q1855) pd_X3_isModel rfl (Nat.le_of_ble_eq_true rfl) (Nat.le_refl _) (Nat.le_refl _) dX3_models_37 (fun v37 M' h hv37 hT => ?_)
            obtain ⟨hv37, rfl⟩ := hv37
            have e37 : (v37 = 1 ↔ mdl (M 1) i) ∧ (v37 = 0 ∨ v37 = 1) := hv37
            refine j_if_eq F 47 (by decide) (by omega) dX3_models_40 (fun c40 => ?_) (fun c40 => ?_)
            · skip
              refine j_iconst F dX3_models_47 ?_
              exact Kj35 _ _ (by first | rw [cif_t (e37.1.mp (by omega))] | rw [cif_f (fun q => absurd (e37.1.mpr q) (by omega))]) hT
            · skip
              refine j_iconst F dX3_models_43 ?_
              refine j_goto F 48 (by decide) dX3_models_44 ?_
              exact Kj35 _ _ (by first | rw [cif_t (e37.1.mp (by omega))] | rw [cif_f (fun q => absurd (e37.1.mpr q) (by omega))]) hT
    refine j_lv (lv' := [(0, .ref x), (1, vI 0), (2, vI 0)]) ⟨rfl, rfl, rfl, trivial⟩ ?_
    exact L22 _ 0 0 _ ⟨by omega, by omega, rfl⟩ (Nat.lt_succ_self _) hT
  · skip
    refine j_iconst F dX3_models_16 ?_
    exact j_iret F E (Nat.zero_le _) (Nat.zero_le _) dX3_models_17 (ti_post hT ⟨⟨rfl, rfl, rfl, rfl, rfl, rfl⟩, rfl, fun _ => rfl, fun q => absurd (by omega) q⟩)

theorem pd_X3_fixed : yX3_fixed.cls = RX3 ∧ yX3_fixed.cls ≠ "java/lang/invoke/MethodHandle" ∧ yX3_fixed.cls ≠ "java/lang/invoke/VarHandle" ∧ (parseMethodDescriptor yX3_fixed.desc).map (fun d => d.parameters.length) = some 1 := by decide +kernel
theorem ct_X3_fixed (l : Launch) (G : Gt) (KS : Ks l G) (x : Nat) (M : Mt) {so : Int} (hso : so = 0 ∨ so = 1) (hR : RI (M 1)) : TI l G yX3_fixed cX3_fixed 6 (some FieldType.int) 3 x [vI so] M (fun v M' => tsm M M' ∧ M' 1 = M 1 ∧ (12 < M 1 0 → v = -1) ∧ (¬ 12 < M 1 0 → v = if (fxN (M 1) so (shl9 1 (M 1 0) - 1) (shl9 1 (M 1 0)).toNat).1 = 0 then -1 else (fxN (M 1) so (shl9 1 (M 1 0) - 1) (shl9 1 (M 1 0)).toNat).2)) := by
  intro h0 h hT
  refine ct_of KS (by decide) (Nat.le_of_ble_eq_true rfl) (fun X F E => ?_)
  refine j_lv (lv' := [(0, .ref x), (1, vI so)]) ⟨rfl, rfl, trivial⟩ ?_
  have hV := hR.V
  refine j_aload_n F rfl dX3_fixed_0 ?_
  refine j_iconst F dX3_fixed_1 ?_
  refine t_put F hT 0 (by decide) rfl rfl rfl (by decide) q1486 dX3_fixed_2 (fun h hT => ?_)
  refine j_aload_n F rfl dX3_fixed_5 ?_
  refine t_get F hT 1 (by decide) rfl q1487 dX3_fixed_6 ?_
  refine j_iconst F dX3_fixed_9 ?_
  refine t_ialdw F hT 1 tm_1 (M 1 0) rfl (by omega) dX3_fixed_10 ?_
  refine j_bipush F (by decide) dX3_fixed_11 ?_
  refine j_icmp_le F 18 (by decide) (by omega) (by omega) dX3_fixed_13 (fun c13 => ?_) (fun c13 => ?_)
  · skip
    have hsh := shl_rg (V := M 1 0) (by omega)
    refine j_iconst F dX3_fixed_18 ?_
    refine j_aload_n F rfl dX3_fixed_19 ?_
    refine t_get F hT 1 (by decide) rfl q1487 dX3_fixed_20 ?_
    refine j_iconst F dX3_fixed_23 ?_
    refine t_ialdw F hT 1 tm_1 (M 1 0) rfl (by omega) dX3_fixed_24 ?_
    refine j_ishl F _ (shl9_e _ _) dX3_fixed_25 ?_
    refine j_iconst F dX3_fixed_26 ?_
    refine j_isub F dX3_fixed_27 ?_
    refine j_istore_n F (by decide) dX3_fixed_28 ?_
    refine j_iload_n F rfl dX3_fixed_29 ?_
    refine j_istore_n F (by decide) dX3_fixed_30 ?_
    refine j_iconst F dX3_fixed_31 ?_
    refine j_istore F (by decide) dX3_fixed_32 ?_
    refine j_iconst F dX3_fixed_34 ?_
    refine j_istore F (by decide) dX3_fixed_35 ?_
    have L37 : ∀ (m37 : Nat) (i an bi : Int) (h : Hp), (0 ≤ i ∧ i ≤ shl9 1 (M 1 0) ∧ (an, bi) = fxN (M 1) so (shl9 1 (M 1 0) - 1) i.toNat) → (shl9 1 (M 1 0) - i).toNat < m37 → Tw G x (oM M 0 0 0) h0 h → J X h 37 [(0, .ref x), (1, vI so), (2, vI (shl9 1 (M 1 0) - 1)), (3, vI bi), (4, vI an), (5, vI i)] [] 0 0 := by
      intro m37
      induction m37 with
      | zero => intro i an bi h hI hm37 hT; exact absurd hm37 (Nat.not_lt_zero _)
      | succ m37 ih37 =>
        intro i an bi h hI hm37 hT
        obtain ⟨hI0, hI1, hI2⟩ := hI
        have h01 := fxN_01 (M 1) so (shl9 1 (M 1 0) - 1) i.toNat
        rw [← hI2] at h01
        refine j_iload F rfl dX3_fixed_37 ?_
        refine j_iload_n F rfl dX3_fixed_39 ?_
        refine j_icmp_gt F 80 (by decide) (by omega) (by omega) dX3_fixed_40 (fun c40 => ?_) (fun c40 => ?_)
        · skip
          refine j_iload F rfl dX3_fixed_80 ?_
          refine j_if_eq F 89 (by decide) (by omega) dX3_fixed_82 (fun c82 => ?_) (fun c82 => ?_)
          · skip
            refine j_iconst F dX3_fixed_89 ?_
            exact j_iret F E (Nat.zero_le _) (Nat.zero_le _) dX3_fixed_90 (ti_post hT ⟨⟨rfl, rfl, rfl, rfl, rfl, rfl⟩, rfl, fun q => absurd q (by omega), fun _ => by rw [show shl9 1 (M 1 0) = i by omega] at hI2 ⊢; rw [← hI2]; first | rw [if_pos (by show an = 0; omega)] | rw [if_neg (by show ¬ an = 0; omega)]⟩)
          · skip
            refine j_iload_n F rfl dX3_fixed_85 ?_
            refine j_goto F 90 (by decide) dX3_fixed_86 ?_
            exact j_iret F E (Nat.zero_le _) (Nat.zero_le _) dX3_fixed_90 (ti_post hT ⟨⟨rfl, rfl, rfl, rfl, rfl, rfl⟩, rfl, fun q => absurd q (by omega), fun _ => by rw [show shl9 1 (M 1 0) = i by omega] at hI2 ⊢; rw [← hI2]; first | rw [if_pos (by show an = 0; omega)] | rw [if_neg (by show ¬ an = 0; omega)]⟩)
        · skip
          refine j_aload_n F rfl dX3_fixed_43 ?_
          refine j_iload F rfl dX3_fixed_44 ?_
          refine t_callI F hT (ct_X3_isModel l G KS x _ (a := i) hR) (by decide) (by decide) (lw_V q1852 q1854 qs94 q110 q1855) pd_X3_isModel rfl (Nat.le_of_ble_eq_true rfl) (Nat.le_refl _) (Nat.le_refl _) dX3_fixed_46 (fun v46 M' h hv46 hT => ?_)
          obtain ⟨hv46, rfl⟩ := hv46
          have e46 : (v46 = 1 ↔ mdl (M 1) i) ∧ (v46 = 0 ∨ v46 = 1) := hv46
          refine j_if_ne F 55 (by decide) (by omega) dX3_fixed_49 (fun c49 => ?_) (fun c49 => ?_)
          · skip
            have hym : mdl (M 1) i := e46.1.mp (by omega)
            refine j_iconst F dX3_fixed_55 ?_
            refine j_istore F (by decide) dX3_fixed_56 ?_
            refine j_iload_n F rfl dX3_fixed_58 ?_
            refine j_joinT (x := x) (M := (oM M 0 0 0)) (G := G) (h0 := h0) 72 (fun w => w = if so = 0 then xor9 i (-1) else i) (fun w h hw hT => ?_) (fun Kj59 => ?_)
            · skip
              refine j_iand F _ (and9_e _ _) dX3_fixed_72 ?_
              refine j_istore_n F (by decide) dX3_fixed_73 ?_
              refine j_iinc F rfl (by decide) dX3_fixed_74 ?_
              refine j_goto F 37 (by decide) dX3_fixed_77 ?_
              refine j_lv (lv' := [(0, .ref x), (1, vI so), (2, vI (shl9 1 (M 1 0) - 1)), (3, vI (and9 bi w)), (4, vI 1), (5, vI (i + 1))]) ⟨rfl, rfl, rfl, rfl, rfl, rfl, trivial⟩ ?_
              exact ih37 (i + 1) 1 (and9 bi w) _ ⟨by omega, by omega, by rw [fxN_s hI0, cif_t hym, ← hI2, hw]⟩ (by omega) hT
            · skip
              refine j_iload_n F rfl dX3_fixed_59 ?_
              refine j_if_eq F 68 (by decide) (by omega) dX3_fixed_60 (fun c60 => ?_) (fun c60 => ?_)
              · skip
                refine j_iload F rfl dX3_fixed_68 ?_
                refine j_iconst F dX3_fixed_70 ?_
                refine j_ixor F _ (xor9_e _ _) dX3_fixed_71 ?_
                exact Kj59 _ _ (by split <;> first | rfl | omega) hT
              · skip
                refine j_iload F rfl dX3_fixed_63 ?_
                refine j_goto F 72 (by decide) dX3_fixed_65 ?_
                exact Kj59 _ _ (by split <;> first | rfl | omega) hT
          · skip
            have hnm : ¬ mdl (M 1) i := fun q => absurd (e46.1.mpr q) (by omega)
            refine j_goto F 74 (by decide) dX3_fixed_52 ?_
            refine j_iinc F rfl (by decide) dX3_fixed_74 ?_
            refine j_goto F 37 (by decide) dX3_fixed_77 ?_
            refine j_lv (lv' := [(0, .ref x), (1, vI so), (2, vI (shl9 1 (M 1 0) - 1)), (3, vI bi), (4, vI an), (5, vI (i + 1))]) ⟨rfl, rfl, rfl, rfl, rfl, rfl, trivial⟩ ?_
            exact ih37 (i + 1) an bi _ ⟨by omega, by omega, by rw [fxN_s hI0, cif_f hnm, hI2]⟩ (by omega) hT
    refine j_lv (lv' := [(0, .ref x), (1, vI so), (2, vI (shl9 1 (M 1 0) - 1)), (3, vI (shl9 1 (M 1 0) - 1)), (4, vI 0), (5, vI 0)]) ⟨rfl, rfl, rfl, rfl, rfl, rfl, trivial⟩ ?_
    exact L37 _ 0 0 (shl9 1 (M 1 0) - 1) _ ⟨by omega, by omega, rfl⟩ (Nat.lt_succ_self _) hT
  · skip
    refine j_iconst F dX3_fixed_16 ?_
    exact j_iret F E (Nat.zero_le _) (Nat.zero_le _) dX3_fixed_17 (ti_post hT ⟨⟨rfl, rfl, rfl, rfl, rfl, rfl⟩, rfl, fun _ => rfl, fun q => absurd (by omega) q⟩)

theorem pd_X3_drawsFrom : yX3_drawsFrom.cls = RX3 ∧ yX3_drawsFrom.cls ≠ "java/lang/invoke/MethodHandle" ∧ yX3_drawsFrom.cls ≠ "java/lang/invoke/VarHandle" ∧ (parseMethodDescriptor yX3_drawsFrom.desc).map (fun d => d.parameters.length) = some 1 := by decide +kernel
theorem ct_X3_drawsFrom (l : Launch) (G : Gt) (KS : Ks l G) (x : Nat) (M : Mt) {c : Int} (hR : RI (M 1)) (hTR : TR M) (hc : 0 ≤ c ∧ c < M 1 1) (hro : opn (M 1) (M 5) c = 1 → M 10 0 < 30) : TI l G yX3_drawsFrom cX3_drawsFrom 3 (some FieldType.int) 3 x [vI c] M (fun v M' => v = drv (opn (M 1) (M 5) c) ∧ M' = dfM M c) := by
  intro h0 h hT
  refine ct_of KS (by decide) (Nat.le_of_ble_eq_true rfl) (fun X F E => ?_)
  refine j_lv (lv' := [(0, .ref x), (1, vI c)]) ⟨rfl, rfl, trivial⟩ ?_
  have hcl := hR.cl hc.1 hc.2
  have hor := opn_rg (R := M 1) (s := M 5) (c := c) (by omega)
  have hV := hR.V
  have htd := hTR.trd
  refine j_aload_n F rfl dX3_drawsFrom_0 ?_
  refine j_iload_n F rfl dX3_drawsFrom_1 ?_
  refine t_callI F hT (ct_X3_open l G KS x M hR hTR.s hc) (by decide) (by decide) (lw_V q1681 q1683 qs64 q110 q1684) pd_X3_open rfl (Nat.le_of_ble_eq_true rfl) (Nat.le_refl _) (Nat.le_refl _) dX3_drawsFrom_2 (fun v2 M' h hv2 hT => ?_)
  obtain ⟨hv2, rfl⟩ := hv2
  subst hv2
  refine j_istore_n F (by decide) dX3_drawsFrom_5 ?_
  refine j_iload_n F rfl dX3_drawsFrom_6 ?_
  refine j_iconst F dX3_drawsFrom_7 ?_
  refine j_icmp_ne F 21 (by decide) (by omega) (by omega) dX3_drawsFrom_8 (fun c8 => ?_) (fun c8 => ?_)
  · skip
    have hM9 : M = dfM M c := (cif_f (by omega)).symm
    refine j_iload_n F rfl dX3_drawsFrom_21 ?_
    refine j_if_ne F 29 (by decide) (by omega) dX3_drawsFrom_22 (fun c22 => ?_) (fun c22 => ?_)
    · skip
      refine j_iload_n F rfl dX3_drawsFrom_29 ?_
      refine j_iconst F dX3_drawsFrom_30 ?_
      refine j_icmp_ne F 38 (by decide) (by omega) (by omega) dX3_drawsFrom_31 (fun c31 => ?_) (fun c31 => ?_)
      · skip
        refine j_iconst F dX3_drawsFrom_38 ?_
        exact j_iret F E (Nat.zero_le _) (Nat.zero_le _) dX3_drawsFrom_39 (ti_post hT ⟨by unfold drv; first | (exfalso; omega) | rw [if_pos (by omega)] | rw [if_neg (by omega), if_pos (by omega)] | rw [if_neg (by omega), if_neg (by omega)], hM9⟩)
      · skip
        refine j_iconst F dX3_drawsFrom_34 ?_
        refine j_goto F 39 (by decide) dX3_drawsFrom_35 ?_
        exact j_iret F E (Nat.zero_le _) (Nat.zero_le _) dX3_drawsFrom_39 (ti_post hT ⟨by unfold drv; first | (exfalso; omega) | rw [if_pos (by omega)] | rw [if_neg (by omega), if_pos (by omega)] | rw [if_neg (by omega), if_neg (by omega)], hM9⟩)
    · skip
      refine j_iconst F dX3_drawsFrom_25 ?_
      refine j_goto F 39 (by decide) dX3_drawsFrom_26 ?_
      exact j_iret F E (Nat.zero_le _) (Nat.zero_le _) dX3_drawsFrom_39 (ti_post hT ⟨by unfold drv; first | (exfalso; omega) | rw [if_pos (by omega)] | rw [if_neg (by omega), if_pos (by omega)] | rw [if_neg (by omega), if_neg (by omega)], hM9⟩)
  · skip
    have hop := lok_30 hV.2 (opo_lok hR hc.1 hc.2 (s := M 5) (by omega))
    refine j_aload_n F rfl dX3_drawsFrom_11 ?_
    refine j_aload_n F rfl dX3_drawsFrom_12 ?_
    refine j_iload_n F rfl dX3_drawsFrom_13 ?_
    refine t_callI F hT (ct_X3_openOne l G KS x M hR hTR.s hc) (by decide) (by decide) (lw_V q1728 q1730 qs75 q110 q1731) pd_X3_openOne rfl (Nat.le_of_ble_eq_true rfl) (Nat.le_refl _) (Nat.le_refl _) dX3_drawsFrom_14 (fun v14 M' h hv14 hT => ?_)
    obtain ⟨hv14, rfl⟩ := hv14
    subst hv14
    refine j_iload_n F rfl dX3_drawsFrom_17 ?_
    refine t_callV F hT (ct_X3_comes l G KS x M (w := c) hop ⟨htd.1, hro (by omega)⟩) (by decide) (by decide) (lw_V q1717 q1719 qs73 q110 q1720) pd_X3_comes rfl (Nat.le_of_ble_eq_true rfl) (Nat.le_refl _) (Nat.le_refl _) dX3_drawsFrom_18 (fun M18 h hv18 hT => ?_)
    have hM9 : M18 = dfM M c := hv18.trans (cif_t (by omega)).symm
    refine j_iload_n F rfl dX3_drawsFrom_21 ?_
    refine j_if_ne F 29 (by decide) (by omega) dX3_drawsFrom_22 (fun c22 => ?_) (fun c22 => ?_)
    · skip
      refine j_iload_n F rfl dX3_drawsFrom_29 ?_
      refine j_iconst F dX3_drawsFrom_30 ?_
      refine j_icmp_ne F 38 (by decide) (by omega) (by omega) dX3_drawsFrom_31 (fun c31 => ?_) (fun c31 => ?_)
      · skip
        refine j_iconst F dX3_drawsFrom_38 ?_
        exact j_iret F E (Nat.zero_le _) (Nat.zero_le _) dX3_drawsFrom_39 (ti_post hT ⟨by unfold drv; first | (exfalso; omega) | rw [if_pos (by omega)] | rw [if_neg (by omega), if_pos (by omega)] | rw [if_neg (by omega), if_neg (by omega)], hM9⟩)
      · skip
        refine j_iconst F dX3_drawsFrom_34 ?_
        refine j_goto F 39 (by decide) dX3_drawsFrom_35 ?_
        exact j_iret F E (Nat.zero_le _) (Nat.zero_le _) dX3_drawsFrom_39 (ti_post hT ⟨by unfold drv; first | (exfalso; omega) | rw [if_pos (by omega)] | rw [if_neg (by omega), if_pos (by omega)] | rw [if_neg (by omega), if_neg (by omega)], hM9⟩)
    · skip
      refine j_iconst F dX3_drawsFrom_25 ?_
      refine j_goto F 39 (by decide) dX3_drawsFrom_26 ?_
      exact j_iret F E (Nat.zero_le _) (Nat.zero_le _) dX3_drawsFrom_39 (ti_post hT ⟨by unfold drv; first | (exfalso; omega) | rw [if_pos (by omega)] | rw [if_neg (by omega), if_pos (by omega)] | rw [if_neg (by omega), if_neg (by omega)], hM9⟩)

theorem pd_X3_drawsRead : yX3_drawsRead.cls = RX3 ∧ yX3_drawsRead.cls ≠ "java/lang/invoke/MethodHandle" ∧ yX3_drawsRead.cls ≠ "java/lang/invoke/VarHandle" ∧ (parseMethodDescriptor yX3_drawsRead.desc).map (fun d => d.parameters.length) = some 1 := by decide +kernel
theorem ct_X3_drawsRead (l : Launch) (G : Gt) (KS : Ks l G) (x : Nat) (M : Mt) {a : Int} (hR : RI (M 1)) (hTR : TR M) (ha : 0 ≤ a ∧ a < 401) (hf : 0 ≤ M 19 a ∧ M 19 a ≤ M 19 (a + 1) ∧ M 19 (a + 1) ≤ 400) (hl : ∀ i : Int, M 19 a ≤ i → i < M 19 (a + 1) → lok 30 (M 18 i)) (hro : opG (M 5) (rdG M a) (rdN M a) = 1 → M 10 0 < 30) : TI l G yX3_drawsRead cX3_drawsRead 6 (some FieldType.int) 3 x [vI a] M (fun v M' => v = drv (opG (M 5) (rdG M a) (rdN M a)) ∧ M' = drM M a) := by
  intro h0 h hT
  refine ct_of KS (by decide) (Nat.le_of_ble_eq_true rfl) (fun X F E => ?_)
  refine j_lv (lv' := [(0, .ref x), (1, vI a)]) ⟨rfl, rfl, trivial⟩ ?_
  have htd := hTR.trd
  refine j_iconst F dX3_drawsRead_0 ?_
  refine j_istore_n F (by decide) dX3_drawsRead_1 ?_
  refine j_iconst F dX3_drawsRead_2 ?_
  refine j_istore_n F (by decide) dX3_drawsRead_3 ?_
  refine j_aload_n F rfl dX3_drawsRead_4 ?_
  refine t_get F hT 19 (by decide) rfl q1505 dX3_drawsRead_5 ?_
  refine j_iload_n F rfl dX3_drawsRead_8 ?_
  refine t_iald F hT 19 tm_19 (by omega) dX3_drawsRead_9 ?_
  refine j_istore F (by decide) dX3_drawsRead_10 ?_
  have L12 : ∀ (m12 : Nat) (i j nn ll : Int) (h : Hp), (0 ≤ j ∧ j ≤ rdN M a ∧ i = M 19 a + j ∧ nn = cnt (fun k => trv (M 5) (rdG M a k)) 0 j.toNat ∧ ll = laG (M 5) (rdG M a) j.toNat ∧ ∀ k : Int, 0 ≤ k → k < j → ¬ 0 < trv (M 5) (rdG M a k)) → (rdN M a - j).toNat < m12 → Tw G x M h0 h → J X h 12 [(0, .ref x), (1, vI a), (2, vI nn), (3, vI ll), (4, vI i)] [] 0 0 := by
    intro m12
    induction m12 with
    | zero => intro i j nn ll h hI hm12 hT; exact absurd hm12 (Nat.not_lt_zero _)
    | succ m12 ih12 =>
      intro i j nn ll h hI hm12 hT
      obtain ⟨hI0, hI1, hI2, hI3, hI4, hI5⟩ := hI
      have hnr := cnt_rgi (fun k => trv (M 5) (rdG M a k)) 0 hI0
      have hrn : rdN M a = M 19 (a + 1) - M 19 a := rfl
      have hgi : M 18 i = rdG M a j := by rw [hI2]; rfl
      refine j_iload F rfl dX3_drawsRead_12 ?_
      refine j_aload_n F rfl dX3_drawsRead_14 ?_
      refine t_get F hT 19 (by decide) rfl q1505 dX3_drawsRead_15 ?_
      refine j_iload_n F rfl dX3_drawsRead_18 ?_
      refine j_iconst F dX3_drawsRead_19 ?_
      refine j_iadd F dX3_drawsRead_20 ?_
      refine t_iald F hT 19 tm_19 (by omega) dX3_drawsRead_21 ?_
      refine j_icmp_ge F 81 (by decide) (by omega) (by omega) dX3_drawsRead_22 (fun c22 => ?_) (fun c22 => ?_)
      · skip
        have hjn : j = rdN M a := by omega
        have hop9 : opG (M 5) (rdG M a) (rdN M a) = nn := by unfold opG; rw [cif_f (fun ⟨k, k0, k1, k2⟩ => hI5 k k0 (by omega) k2), ← hjn, hI3]
        refine j_iload_n F rfl dX3_drawsRead_81 ?_
        refine j_iconst F dX3_drawsRead_82 ?_
        refine j_icmp_ne F 92 (by decide) (by omega) (by omega) dX3_drawsRead_83 (fun c83 => ?_) (fun c83 => ?_)
        · skip
          have hM9 : M = drM M a := (cif_f (by omega)).symm
          refine j_iload_n F rfl dX3_drawsRead_92 ?_
          refine j_if_ne F 100 (by decide) (by omega) dX3_drawsRead_93 (fun c93 => ?_) (fun c93 => ?_)
          · skip
            refine j_iload_n F rfl dX3_drawsRead_100 ?_
            refine j_iconst F dX3_drawsRead_101 ?_
            refine j_icmp_ne F 109 (by decide) (by omega) (by omega) dX3_drawsRead_102 (fun c102 => ?_) (fun c102 => ?_)
            · skip
              refine j_iconst F dX3_drawsRead_109 ?_
              exact j_iret F E (Nat.zero_le _) (Nat.zero_le _) dX3_drawsRead_110 (ti_post hT ⟨by rw [hop9]; unfold drv; first | (exfalso; omega) | rw [if_pos (by omega)] | rw [if_neg (by omega), if_pos (by omega)] | rw [if_neg (by omega), if_neg (by omega)], hM9⟩)
            · skip
              refine j_iconst F dX3_drawsRead_105 ?_
              refine j_goto F 110 (by decide) dX3_drawsRead_106 ?_
              exact j_iret F E (Nat.zero_le _) (Nat.zero_le _) dX3_drawsRead_110 (ti_post hT ⟨by rw [hop9]; unfold drv; first | (exfalso; omega) | rw [if_pos (by omega)] | rw [if_neg (by omega), if_pos (by omega)] | rw [if_neg (by omega), if_neg (by omega)], hM9⟩)
          · skip
            refine j_iconst F dX3_drawsRead_96 ?_
            refine j_goto F 110 (by decide) dX3_drawsRead_97 ?_
            exact j_iret F E (Nat.zero_le _) (Nat.zero_le _) dX3_drawsRead_110 (ti_post hT ⟨by rw [hop9]; unfold drv; first | (exfalso; omega) | rw [if_pos (by omega)] | rw [if_neg (by omega), if_pos (by omega)] | rw [if_neg (by omega), if_neg (by omega)], hM9⟩)
        · skip
          obtain ⟨g1, g2, kk, kk0, kk1, kk2, kk3⟩ := opG_1 (by omega) (hop9.trans (by omega))
          have hll : ll = ooG (M 5) (rdG M a) (rdN M a) := by rw [kk3, hI4, hjn]; exact laG_1 kk0 kk2 _ (by omega) g2
          have hlk9 : lok 30 ll := by rw [hll, kk3]; exact hl (M 19 a + kk) (by omega) (by omega)
          refine j_aload_n F rfl dX3_drawsRead_86 ?_
          refine j_iload_n F rfl dX3_drawsRead_87 ?_
          refine j_iconst F dX3_drawsRead_88 ?_
          refine t_callV F hT (ct_X3_comes l G KS x M (w := -1) hlk9 ⟨htd.1, hro (by omega)⟩) (by decide) (by decide) (lw_V q1717 q1719 qs73 q110 q1720) pd_X3_comes rfl (Nat.le_of_ble_eq_true rfl) (Nat.le_refl _) (Nat.le_refl _) dX3_drawsRead_89 (fun M89 h hv89 hT => ?_)
          have hM9 : M89 = drM M a := by rw [hv89, hll]; exact (cif_t (by omega)).symm
          refine j_iload_n F rfl dX3_drawsRead_92 ?_
          refine j_if_ne F 100 (by decide) (by omega) dX3_drawsRead_93 (fun c93 => ?_) (fun c93 => ?_)
          · skip
            refine j_iload_n F rfl dX3_drawsRead_100 ?_
            refine j_iconst F dX3_drawsRead_101 ?_
            refine j_icmp_ne F 109 (by decide) (by omega) (by omega) dX3_drawsRead_102 (fun c102 => ?_) (fun c102 => ?_)
            · skip
              refine j_iconst F dX3_drawsRead_109 ?_
              exact j_iret F E (Nat.zero_le _) (Nat.zero_le _) dX3_drawsRead_110 (ti_post hT ⟨by rw [hop9]; unfold drv; first | (exfalso; omega) | rw [if_pos (by omega)] | rw [if_neg (by omega), if_pos (by omega)] | rw [if_neg (by omega), if_neg (by omega)], hM9⟩)
            · skip
              refine j_iconst F dX3_drawsRead_105 ?_
              refine j_goto F 110 (by decide) dX3_drawsRead_106 ?_
              exact j_iret F E (Nat.zero_le _) (Nat.zero_le _) dX3_drawsRead_110 (ti_post hT ⟨by rw [hop9]; unfold drv; first | (exfalso; omega) | rw [if_pos (by omega)] | rw [if_neg (by omega), if_pos (by omega)] | rw [if_neg (by omega), if_neg (by omega)], hM9⟩)
          · skip
            refine j_iconst F dX3_drawsRead_96 ?_
            refine j_goto F 110 (by decide) dX3_drawsRead_97 ?_
            exact j_iret F E (Nat.zero_le _) (Nat.zero_le _) dX3_drawsRead_110 (ti_post hT ⟨by rw [hop9]; unfold drv; first | (exfalso; omega) | rw [if_pos (by omega)] | rw [if_neg (by omega), if_pos (by omega)] | rw [if_neg (by omega), if_neg (by omega)], hM9⟩)
      · skip
        have hlk := hl i (by omega) (by omega)
        rw [hgi] at hlk
        unfold lok at hlk
        refine j_aload_n F rfl dX3_drawsRead_25 ?_
        refine j_aload_n F rfl dX3_drawsRead_26 ?_
        refine t_get F hT 18 (by decide) rfl q1504 dX3_drawsRead_27 ?_
        refine j_iload F rfl dX3_drawsRead_30 ?_
        refine t_ialdw F hT 18 tm_18 (rdG M a j) hgi (by omega) dX3_drawsRead_32 ?_
        refine t_callI F hT (ct_X3_truth l G KS x M (a := rdG M a j) (by omega)) (by decide) (by decide) (lw_V q1689 q1691 qs66 q110 q1692) pd_X3_truth rfl (Nat.le_of_ble_eq_true rfl) (Nat.le_refl _) (Nat.le_refl _) dX3_drawsRead_33 (fun v33 M' h hv33 hT => ?_)
        obtain ⟨hv33, rfl⟩ := hv33
        subst hv33
        have htr := trv_rg hTR.s (l := rdG M a j) (by omega)
        refine j_istore F (by decide) dX3_drawsRead_36 ?_
        refine j_iload F rfl dX3_drawsRead_38 ?_
        refine j_if_le F 45 (by decide) (by omega) dX3_drawsRead_40 (fun c40 => ?_) (fun c40 => ?_)
        · skip
          have c40' : ¬ 0 < trv (M 5) (rdG M a j) := by omega
          refine j_iload_n F rfl dX3_drawsRead_45 ?_
          refine j_joinT (x := x) (M := M) (G := G) (h0 := h0) 56 (fun w => nn + w = cnt (fun k => trv (M 5) (rdG M a k)) 0 (j + 1).toNat) (fun w h hw hT => ?_) (fun Kj46 => ?_)
          · skip
            refine j_iadd F dX3_drawsRead_56 ?_
            refine j_istore_n F (by decide) dX3_drawsRead_57 ?_
            refine j_joinT (x := x) (M := M) (G := G) (h0 := h0) 74 (fun w2 => w2 = laG (M 5) (rdG M a) (j + 1).toNat) (fun w2 h hw2 hT => ?_) (fun Kj58 => ?_)
            · skip
              refine j_istore_n F (by decide) dX3_drawsRead_74 ?_
              refine j_iinc F rfl (by decide) dX3_drawsRead_75 ?_
              refine j_goto F 12 (by decide) dX3_drawsRead_78 ?_
              refine j_lv (lv' := [(0, .ref x), (1, vI a), (2, vI (nn + w)), (3, vI w2), (4, vI (i + 1))]) ⟨rfl, rfl, rfl, rfl, rfl, trivial⟩ ?_
              exact ih12 (i + 1) (j + 1) (nn + w) w2 _ ⟨by omega, by omega, by omega, hw, hw2, fun k k0 k1 => if e : k = j then (by rw [e]; exact c40') else hI5 k k0 (by omega)⟩ (by omega) hT
            · skip
              refine j_iload F rfl dX3_drawsRead_58 ?_
              refine j_if_ne F 73 (by decide) (by omega) dX3_drawsRead_60 (fun c60 => ?_) (fun c60 => ?_)
              · skip
                refine j_iload_n F rfl dX3_drawsRead_73 ?_
                exact Kj58 _ _ (by rw [laG_s hI0]; first | rw [if_pos (by omega)] | (rw [if_neg (by omega)]; exact hI4)) hT
              · skip
                refine j_aload_n F rfl dX3_drawsRead_63 ?_
                refine t_get F hT 18 (by decide) rfl q1504 dX3_drawsRead_64 ?_
                refine j_iload F rfl dX3_drawsRead_67 ?_
                refine t_ialdw F hT 18 tm_18 (rdG M a j) hgi (by omega) dX3_drawsRead_69 ?_
                refine j_goto F 74 (by decide) dX3_drawsRead_70 ?_
                exact Kj58 _ _ (by rw [laG_s hI0]; first | rw [if_pos (by omega)] | (rw [if_neg (by omega)]; exact hI4)) hT
          · skip
            refine j_iload F rfl dX3_drawsRead_46 ?_
            refine j_if_ne F 55 (by decide) (by omega) dX3_drawsRead_48 (fun c48 => ?_) (fun c48 => ?_)
            · skip
              refine j_iconst F dX3_drawsRead_55 ?_
              exact Kj46 _ _ (by rw [cnt_s hI0]; split <;> omega) hT
            · skip
              refine j_iconst F dX3_drawsRead_51 ?_
              refine j_goto F 56 (by decide) dX3_drawsRead_52 ?_
              exact Kj46 _ _ (by rw [cnt_s hI0]; split <;> omega) hT
        · skip
          refine j_iconst F dX3_drawsRead_43 ?_
          exact j_iret F E (Nat.zero_le _) (Nat.zero_le _) dX3_drawsRead_44 (ti_post hT ⟨by unfold opG; rw [cif_t ⟨j, hI0, by omega, by omega⟩]; rfl, by unfold drM opG; rw [cif_t (p := ∃ k : Int, 0 ≤ k ∧ k < rdN M a ∧ 0 < trv (M 5) (rdG M a k)) ⟨j, hI0, by omega, by omega⟩, cif_f (by omega)]⟩)
  refine j_lv (lv' := [(0, .ref x), (1, vI a), (2, vI 0), (3, vI 0), (4, vI (M 19 a))]) ⟨rfl, rfl, rfl, rfl, rfl, trivial⟩ ?_
  exact L12 _ (M 19 a) 0 0 0 _ ⟨by omega, by unfold rdN; omega, by omega, rfl, rfl, fun k k0 k1 => by omega⟩ (Nat.lt_succ_self _) hT
