/-- a clause holds under a set of variables, as bits; or is learnt -/
def sat9 (R : Int → Int) (set c k : Int) : Prop := and9 (shr9 set (iab (lit R c k) - 1)) 1 = 1 ↔ 0 < lit R c k
def hld (R : Int → Int) (set c n : Int) : Prop := (flg R c = 1 ∨ flg R c = 3) ∨ ∃ k : Int, 0 ≤ k ∧ k < n ∧ sat9 R set c k
def mdl (R : Int → Int) (set : Int) : Prop := ∀ c : Int, 0 ≤ c → c < R 1 → hld R set c (siz R c)
noncomputable def mdN (R : Int → Int) : Nat → Int
  | 0 => 0
  | n + 1 => mdN R n + cif (mdl R n) 1 0
theorem mdN_rg (R : Int → Int) : ∀ n : Nat, 0 ≤ mdN R n ∧ mdN R n ≤ n
  | 0 => by simp [mdN]
  | n + 1 => by
    have := mdN_rg R n
    unfold mdN
    by_cases q : mdl R n
    · rw [cif_t q]; omega
    · rw [cif_f q]; omega
theorem mdN_s {R : Int → Int} {i : Int} (hi : 0 ≤ i) : mdN R (i + 1).toNat = mdN R i.toNat + cif (mdl R i) 1 0 := by
  have e : (i + 1).toNat = i.toNat + 1 := by omega
  rw [e, mdN, Int.toNat_of_nonneg hi]
/-- what all models share: whether there is one, the bits -/
noncomputable def fxN (R : Int → Int) (so all : Int) : Nat → Int × Int
  | 0 => (0, all)
  | n + 1 => cif (mdl R n) (1, and9 (fxN R so all n).2 (if so = 0 then xor9 n (-1) else n)) (fxN R so all n)
theorem fxN_s {R : Int → Int} {so all i : Int} (hi : 0 ≤ i) : fxN R so all (i + 1).toNat = cif (mdl R i) (1, and9 (fxN R so all i.toNat).2 (if so = 0 then xor9 i (-1) else i)) (fxN R so all i.toNat) := by
  have e : (i + 1).toNat = i.toNat + 1 := by omega
  rw [e, fxN, Int.toNat_of_nonneg hi]
theorem fxN_01 (R : Int → Int) (so all : Int) : ∀ n : Nat, (fxN R so all n).1 = 0 ∨ (fxN R so all n).1 = 1
  | 0 => Or.inl rfl
  | n + 1 => by
    unfold fxN
    by_cases q : mdl R n
    · rw [cif_t q]; exact Or.inr rfl
    · rw [cif_f q]; exact fxN_01 R so all n
theorem shl_rg {V : Int} (h : 0 ≤ V ∧ V ≤ 12) : 1 ≤ shl9 1 V ∧ shl9 1 V ≤ 4096 := by
  have : V = 0 ∨ V = 1 ∨ V = 2 ∨ V = 3 ∨ V = 4 ∨ V = 5 ∨ V = 6 ∨ V = 7 ∨ V = 8 ∨ V = 9 ∨ V = 10 ∨ V = 11 ∨ V = 12 := by omega
  rcases this with rfl | rfl | rfl | rfl | rfl | rfl | rfl | rfl | rfl | rfl | rfl | rfl | rfl <;> decide +kernel
theorem i32_rg (x : Int32) : -2147483648 ≤ x.toInt ∧ x.toInt ≤ 2147483647 := by
  have h1 := Int32.le_toInt x
  have h2 := Int32.toInt_lt x
  omega
theorem and9_r (a b : Int) : -2147483648 ≤ and9 a b ∧ and9 a b ≤ 2147483647 := i32_rg _
theorem and9_1 (a : Int) : and9 a 1 = 0 ∨ and9 a 1 = 1 := by
  unfold and9
  have h := pk_and (Int32.ofInt a) (m := Int32.ofInt 1) 1 (by decide)
  rw [h]
  have h2 : (Int32.ofInt a).toBitVec.toNat % 2 ^ 1 < 2 := Nat.mod_lt _ (by decide)
  rw [nI_toInt (by omega)]
  omega
theorem hld_w {R : Int → Int} {set c k n : Int} (h : k ≤ n) (q : hld R set c k) : hld R set c n := by
  rcases q with q | ⟨j, j0, j1, j2⟩
  · exact Or.inl q
  · exact Or.inr ⟨j, j0, by omega, j2⟩
theorem hld_s {R : Int → Int} {set c k q w : Int} (hk : 0 ≤ k) (hq : q = 0) (h : q = 1 ↔ hld R set c k) (hw : w = 1 ↔ sat9 R set c k) : w = 1 ↔ hld R set c (k + 1) := by
  have hno : ¬ hld R set c k := fun z => by have := h.mpr z; omega
  constructor
  · intro z
    exact Or.inr ⟨k, hk, by omega, hw.mp z⟩
  · intro z
    rcases z with z | ⟨j, j0, j1, j2⟩
    · exact absurd (Or.inl z) hno
    · by_cases e : j = k
      · rw [e] at j2
        exact hw.mpr j2
      · exact absurd (Or.inr ⟨j, j0, by omega, j2⟩) hno
theorem pd_X3_among : yX3_among.cls = RX3 ∧ yX3_among.cls ≠ "java/lang/invoke/MethodHandle" ∧ yX3_among.cls ≠ "java/lang/invoke/VarHandle" ∧ (parseMethodDescriptor yX3_among.desc).map (fun d => d.parameters.length) = some 1 := by decide +kernel
theorem ct_X3_among (l : Launch) (G : Gt) (KS : Ks l G) (x : Nat) (M : Mt) {a : Int} (ha : rg a) (hR : RI (M 1)) : TI l G yX3_among cX3_among 5 (some FieldType.int) 2 x [vI a] M (fun v M' => v = amN (M 1) a (M 1 1).toNat ∧ M = M') := by
  intro h0 h hT
  refine ct_of KS (by decide) (Nat.le_of_ble_eq_true rfl) (fun X F E => ?_)
  refine j_lv (lv' := [(0, .ref x), (1, vI a)]) ⟨rfl, rfl, trivial⟩ ?_
  have hm := hR.many
  unfold rg at ha
  have hsz : ∀ n : Nat, (n : Int) < M 1 1 → siz (M 1) n ≤ 30 := fun n hn => (hR.cl (c := n) (by omega) hn).2.1
  refine j_iconst F dX3_among_0 ?_
  refine j_istore_n F (by decide) dX3_among_1 ?_
  refine j_iconst F dX3_among_2 ?_
  refine j_istore_n F (by decide) dX3_among_3 ?_
  have L4 : ∀ (m4 : Nat) (i nn : Int) (h : Hp), (0 ≤ i ∧ i ≤ M 1 1 ∧ nn = amN (M 1) a i.toNat) → (M 1 1 - i).toNat < m4 → Tw G x M h0 h → J X h 4 [(0, .ref x), (1, vI a), (2, vI nn), (3, vI i)] [] 0 0 := by
    intro m4
    induction m4 with
    | zero => intro i nn h hI hm4 hT; exact absurd hm4 (Nat.not_lt_zero _)
    | succ m4 ih4 =>
      intro i nn h hI hm4 hT
      obtain ⟨hI0, hI1, hI2⟩ := hI
      have hnr := amN_rg (M 1) a hsz i.toNat (by omega)
      refine j_iload_n F rfl dX3_among_4 ?_
      refine j_aload_n F rfl dX3_among_5 ?_
      refine t_get F hT 1 (by decide) rfl q1487 dX3_among_6 ?_
      refine j_iconst F dX3_among_9 ?_
      refine t_iald F hT 1 tm_1 (by omega) dX3_among_10 ?_
      refine j_icmp_ge F 69 (by decide) (by omega) (by omega) dX3_among_11 (fun c11 => ?_) (fun c11 => ?_)
      · skip
        refine j_iload_n F rfl dX3_among_69 ?_
        exact j_iret F E (Nat.zero_le _) (Nat.zero_le _) dX3_among_70 (ti_post hT ⟨by rw [hI2, show M 1 1 = i by omega], rfl⟩)
      · skip
        have hcl := hR.cl hI0 (by omega)
        have hfl : flg (M 1) i = M 1 (525 + i) := rfl
        refine j_iconst F dX3_among_14 ?_
        refine j_istore F (by decide) dX3_among_15 ?_
        have L17 : ∀ (m17 : Nat) (k n2 : Int) (h : Hp), (0 ≤ k ∧ k ≤ siz (M 1) i ∧ n2 = nn + (if 2 ≤ flg (M 1) i then 0 else amF (M 1) a i k.toNat)) → (siz (M 1) i - k).toNat < m17 → Tw G x M h0 h → J X h 17 [(0, .ref x), (1, vI a), (2, vI n2), (3, vI i), (4, vI k)] [] 0 0 := by
          intro m17
          induction m17 with
          | zero => intro k n2 h hI hm17 hT; exact absurd hm17 (Nat.not_lt_zero _)
          | succ m17 ih17 =>
            intro k n2 h hI hm17 hT
            obtain ⟨hK0, hK1, hK2⟩ := hI
            have hkr := amF_rg (M 1) a i k.toNat
            refine j_iload F rfl dX3_among_17 ?_
            refine j_aload_n F rfl dX3_among_19 ?_
            refine j_iload_n F rfl dX3_among_20 ?_
            refine t_callI F hT (ct_X3_sizeOf l G KS x M (c := i) (by omega)) (by decide) (by decide) (lw_V q1641 q1643 qs57 q110 q1644) pd_X3_sizeOf rfl (Nat.le_of_ble_eq_true rfl) (Nat.le_refl _) (Nat.le_refl _) dX3_among_21 (fun v21 M' h hv21 hT => ?_)
            obtain ⟨hv21, rfl⟩ := hv21
            have e21 : v21 = siz (M 1) i := hv21
            subst e21
            refine j_icmp_ge F 63 (by decide) (by omega) (by omega) dX3_among_24 (fun c24 => ?_) (fun c24 => ?_)
            · skip
              refine j_iinc F rfl (by decide) dX3_among_63 ?_
              refine j_goto F 4 (by decide) dX3_among_66 ?_
              refine j_lv (lv' := [(0, .ref x), (1, vI a), (2, vI n2), (3, vI (i + 1))]) ⟨rfl, rfl, rfl, rfl, trivial⟩ ?_
              exact ih4 (i + 1) n2 _ ⟨by omega, by omega, by rw [amN_s hI0, hK2, hI2]; congr 1; by_cases hgx : 2 ≤ flg (M 1) i; (rw [if_pos hgx, if_pos hgx]); (rw [if_neg hgx, if_neg hgx, show siz (M 1) i = k by omega])⟩ (by omega) hT
            · skip
              refine j_aload_n F rfl dX3_among_27 ?_
              refine j_iload_n F rfl dX3_among_28 ?_
              refine t_callI F hT (ct_X3_isGone l G KS x M (c := i) (by omega) (by omega)) (by decide) (by decide) (lw_V q1637 q1639 qs56 q110 q1640) pd_X3_isGone rfl (Nat.le_of_ble_eq_true rfl) (Nat.le_refl _) (Nat.le_refl _) dX3_among_29 (fun v29 M' h hv29 hT => ?_)
              obtain ⟨hv29, rfl⟩ := hv29
              have e29 : v29 = if 2 ≤ flg (M 1) i then 1 else 0 := hv29
              have z29 := z01 e29
              refine j_if_ne F 63 (by decide) (by omega) dX3_among_32 (fun c32 => ?_) (fun c32 => ?_)
              · skip
                have hgn : 2 ≤ flg (M 1) i := by split at e29 <;> omega
                refine j_iinc F rfl (by decide) dX3_among_63 ?_
                refine j_goto F 4 (by decide) dX3_among_66 ?_
                refine j_lv (lv' := [(0, .ref x), (1, vI a), (2, vI n2), (3, vI (i + 1))]) ⟨rfl, rfl, rfl, rfl, trivial⟩ ?_
                exact ih4 (i + 1) n2 _ ⟨by omega, by omega, by rw [amN_s hI0, hK2, hI2]; congr 1; by_cases hgx : 2 ≤ flg (M 1) i; (rw [if_pos hgx, if_pos hgx]); (rw [if_neg hgx, if_neg hgx, show siz (M 1) i = k by omega])⟩ (by omega) hT
              · skip
                have hng : ¬ 2 ≤ flg (M 1) i := by split at e29 <;> omega
                have hll := (hR.ll hI0 (by omega) hK0 (by omega)).2
                have hli := iab_rg hll
                rw [if_neg hng] at hK2
                refine j_iload_n F rfl dX3_among_35 ?_
                refine j_joinT (x := x) (M := M) (G := G) (h0 := h0) 55 (fun w => w = if iab (lit (M 1) i k) = a then 1 else 0) (fun w h hw hT => ?_) (fun Kj36 => ?_)
                · skip
                  refine j_iadd F dX3_among_55 ?_
                  refine j_istore_n F (by decide) dX3_among_56 ?_
                  refine j_iinc F rfl (by decide) dX3_among_57 ?_
                  refine j_goto F 17 (by decide) dX3_among_60 ?_
                  refine j_lv (lv' := [(0, .ref x), (1, vI a), (2, vI (n2 + w)), (3, vI i), (4, vI (k + 1))]) ⟨rfl, rfl, rfl, rfl, rfl, trivial⟩ ?_
                  exact ih17 (k + 1) (n2 + w) _ ⟨by omega, by omega, by rw [hK2, if_neg hng, amF_s hK0, hw]; omega⟩ (by omega) hT
                · skip
                  refine j_aload_n F rfl dX3_among_36 ?_
                  refine j_iload_n F rfl dX3_among_37 ?_
                  refine j_iload F rfl dX3_among_38 ?_
                  refine t_callI F hT (ct_X3_literal l G KS x M (c := i) (k := k) (by omega) (by omega)) (by decide) (by decide) (lw_V q1685 q1687 qs65 q110 q1688) pd_X3_literal rfl (Nat.le_of_ble_eq_true rfl) (Nat.le_refl _) (Nat.le_refl _) dX3_among_40 (fun v40 M' h hv40 hT => ?_)
                  obtain ⟨hv40, rfl⟩ := hv40
                  have e40 : v40 = lit (M 1) i k := hv40
                  subst e40
                  refine s_callI F (ct_X3_size l G KS (a := lit (M 1) i k) (by unfold rg; omega)) (by decide) (by decide) (lw_S q1591 q1592 q110 q1593) pd_X3_size rfl (Nat.le_of_ble_eq_true rfl) (Nat.le_refl _) (Nat.le_refl _) dX3_among_43 (fun v43 hv43 => ?_)
                  subst hv43
                  refine j_iload_n F rfl dX3_among_46 ?_
                  refine j_icmp_ne F 54 (by decide) (by omega) (by omega) dX3_among_47 (fun c47 => ?_) (fun c47 => ?_)
                  · skip
                    refine j_iconst F dX3_among_54 ?_
                    exact Kj36 _ _ (by split <;> omega) hT
                  · skip
                    refine j_iconst F dX3_among_50 ?_
                    refine j_goto F 55 (by decide) dX3_among_51 ?_
                    exact Kj36 _ _ (by split <;> omega) hT
        refine j_lv (lv' := [(0, .ref x), (1, vI a), (2, vI nn), (3, vI i), (4, vI 0)]) ⟨rfl, rfl, rfl, rfl, rfl, trivial⟩ ?_
        exact L17 _ 0 nn _ ⟨by omega, by omega, by show nn = nn + (if 2 ≤ flg (M 1) i then 0 else 0); split <;> omega⟩ (Nat.lt_succ_self _) hT
  refine j_lv (lv' := [(0, .ref x), (1, vI a), (2, vI 0), (3, vI 0)]) ⟨rfl, rfl, rfl, rfl, trivial⟩ ?_
  exact L4 _ 0 0 _ ⟨by omega, by omega, rfl⟩ (Nat.lt_succ_self _) hT

theorem pd_X3_variable : yX3_variable.cls = RX3 ∧ yX3_variable.cls ≠ "java/lang/invoke/MethodHandle" ∧ yX3_variable.cls ≠ "java/lang/invoke/VarHandle" ∧ (parseMethodDescriptor yX3_variable.desc).map (fun d => d.parameters.length) = some 2 := by decide +kernel
theorem ct_X3_variable (l : Launch) (G : Gt) (KS : Ks l G) (x : Nat) (M : Mt) {a b : Int} (ha : rg a) (hb : rg b) (hR : RI (M 1)) : TI l G yX3_variable cX3_variable 3 (some FieldType.int) 3 x [vI a, vI b] M (fun v M' => tsm M M' ∧ M' 1 = M 1 ∧ Svariable (M 1) a b v) := by
  intro h0 h hT
  refine ct_of KS (by decide) (Nat.le_of_ble_eq_true rfl) (fun X F E => ?_)
  refine j_lv (lv' := [(0, .ref x), (1, vI a), (2, vI b)]) ⟨rfl, rfl, rfl, trivial⟩ ?_
  have ha' := ha
  unfold rg at ha hb
  have hV := hR.V
  refine j_aload_n F rfl dX3_variable_0 ?_
  refine j_iconst F dX3_variable_1 ?_
  refine t_put F hT 0 (by decide) rfl rfl rfl (by decide) q1486 dX3_variable_2 (fun h hT => ?_)
  refine j_aload_n F rfl dX3_variable_5 ?_
  refine j_iload_n F rfl dX3_variable_6 ?_
  refine t_callI F hT (ct_X3_isVariable l G KS x _ ha' (show 0 ≤ M 1 0 ∧ M 1 0 ≤ 30 from hV)) (by decide) (by decide) (lw_V q1594 q1596 qs52 q110 q1597) pd_X3_isVariable rfl (Nat.le_of_ble_eq_true rfl) (Nat.le_refl _) (Nat.le_refl _) dX3_variable_7 (fun v7 M' h hv7 hT => ?_)
  obtain ⟨hv7, rfl⟩ := hv7
  have e7 : v7 = if 1 ≤ a ∧ a ≤ M 1 0 then 1 else 0 := hv7
  have z7 := z01 e7
  refine j_if_ne F 15 (by decide) (by omega) dX3_variable_10 (fun c10 => ?_) (fun c10 => ?_)
  · skip
    have hin : 1 ≤ a ∧ a ≤ M 1 0 := by split at e7 <;> omega
    refine j_iload_n F rfl dX3_variable_15 ?_
    by_cases s16_0 : b = 0
    · refine j_tswI F (off := 28) 44 (by decide) (by omega) (by omega) (by omega) (by rw [s16_0]; rfl) dX3_variable_16 ?_
      refine j_aload_n F rfl dX3_variable_44 ?_
      refine t_get F hT 1 (by decide) rfl q1487 dX3_variable_45 ?_
      refine j_bipush F (by decide) dX3_variable_48 ?_
      refine j_iload_n F rfl dX3_variable_50 ?_
      refine j_iadd F dX3_variable_51 ?_
      refine t_ialdw F hT 1 tm_1 (M 1 (32 + a)) rfl (by omega) dX3_variable_52 ?_
      exact j_iret F E (Nat.zero_le _) (Nat.zero_le _) dX3_variable_53 (ti_post hT ⟨⟨rfl, rfl, rfl, rfl, rfl, rfl⟩, rfl, by unfold Svariable; rw [if_neg (by omega), if_pos (by omega)]⟩)
    by_cases s16_1 : b = 1
    · refine j_tswI F (off := 38) 54 (by decide) (by omega) (by omega) (by omega) (by rw [s16_1]; rfl) dX3_variable_16 ?_
      refine j_aload_n F rfl dX3_variable_54 ?_
      refine t_get F hT 1 (by decide) rfl q1487 dX3_variable_55 ?_
      refine j_bipush F (by decide) dX3_variable_58 ?_
      refine j_iload_n F rfl dX3_variable_60 ?_
      refine j_iadd F dX3_variable_61 ?_
      refine t_ialdw F hT 1 tm_1 (M 1 (63 + a)) rfl (by omega) dX3_variable_62 ?_
      exact j_iret F E (Nat.zero_le _) (Nat.zero_le _) dX3_variable_63 (ti_post hT ⟨⟨rfl, rfl, rfl, rfl, rfl, rfl⟩, rfl, by unfold Svariable; rw [if_neg (by omega), if_neg (by omega), if_pos (by omega)]⟩)
    by_cases s16_2 : b = 2
    · refine j_tswI F (off := 48) 64 (by decide) (by omega) (by omega) (by omega) (by rw [s16_2]; rfl) dX3_variable_16 ?_
      refine j_aload_n F rfl dX3_variable_64 ?_
      refine j_iload_n F rfl dX3_variable_65 ?_
      refine t_callI F hT (ct_X3_among l G KS x _ ha' hR) (by decide) (by decide) (lw_V q1776 q1778 qs81 q110 q1779) pd_X3_among rfl (Nat.le_of_ble_eq_true rfl) (Nat.le_refl _) (Nat.le_refl _) dX3_variable_66 (fun v66 M' h hv66 hT => ?_)
      obtain ⟨hv66, rfl⟩ := hv66
      have e66 : v66 = amN (M 1) a (M 1 1).toNat := hv66
      subst e66
      exact j_iret F E (Nat.zero_le _) (Nat.zero_le _) dX3_variable_69 (ti_post hT ⟨⟨rfl, rfl, rfl, rfl, rfl, rfl⟩, rfl, by unfold Svariable; rw [if_neg (by omega), if_neg (by omega), if_neg (by omega), if_pos (by omega)]⟩)
    refine j_tswO F 70 (by decide) (by omega) (by omega) dX3_variable_16 ?_
    refine j_iconst F dX3_variable_70 ?_
    exact j_iret F E (Nat.zero_le _) (Nat.zero_le _) dX3_variable_71 (ti_post hT ⟨⟨rfl, rfl, rfl, rfl, rfl, rfl⟩, rfl, by unfold Svariable; rw [if_neg (by omega), if_neg (by omega), if_neg (by omega), if_neg (by omega)]⟩)
  · skip
    refine j_iconst F dX3_variable_13 ?_
    exact j_iret F E (Nat.zero_le _) (Nat.zero_le _) dX3_variable_14 (ti_post hT ⟨⟨rfl, rfl, rfl, rfl, rfl, rfl⟩, rfl, by unfold Svariable; rw [if_pos (by split at e7 <;> omega)]⟩)

theorem pd_X3_isLine : yX3_isLine.cls = RX3 ∧ yX3_isLine.cls ≠ "java/lang/invoke/MethodHandle" ∧ yX3_isLine.cls ≠ "java/lang/invoke/VarHandle" ∧ (parseMethodDescriptor yX3_isLine.desc).map (fun d => d.parameters.length) = some 1 := by decide +kernel
theorem ct_X3_isLine (l : Launch) (G : Gt) (KS : Ks l G) (x : Nat) (M : Mt) {a : Int} (ha : rg a) (hR : RI (M 1)) : TI l G yX3_isLine cX3_isLine 2 (some FieldType.boolean) 2 x [vI a] M (fun v M' => (v = if 0 ≤ a ∧ a ≤ M 1 6 - 1 then 1 else 0) ∧ M = M') := by
  intro h0 h hT
  refine ct_of KS (by decide) (Nat.le_of_ble_eq_true rfl) (fun X F E => ?_)
  refine j_lv (lv' := [(0, .ref x), (1, vI a)]) ⟨rfl, rfl, trivial⟩ ?_
  have hl := hR.lines
  have hm := hR.many
  have hr9 := hR.ref
  refine j_iload_n F rfl dX3_isLine_0 ?_
  refine j_iconst F dX3_isLine_1 ?_
  refine j_aload_n F rfl dX3_isLine_2 ?_
  refine t_get F hT 1 (by decide) rfl q1487 dX3_isLine_3 ?_
  refine j_bipush F (by decide) dX3_isLine_6 ?_
  refine t_iald F hT 1 tm_1 (by omega) dX3_isLine_8 ?_
  refine j_iconst F dX3_isLine_9 ?_
  refine j_isub F dX3_isLine_10 ?_
  refine s_callI F (ct_X3_isIn l G KS ha (b := 0) (c := M 1 6 - 1) (by unfold rg; omega) (by unfold rg; omega)) (by decide) (by decide) (lw_S q1598 q1599 q110 q1600) pd_X3_isIn rfl (Nat.le_of_ble_eq_true rfl) (Nat.le_refl _) (Nat.le_refl _) dX3_isLine_11 (fun v11 hv11 => ?_)
  exact j_zret F E (z01 hv11) (Nat.zero_le _) (Nat.zero_le _) dX3_isLine_14 (ti_post hT ⟨hv11, rfl⟩)

theorem pd_X3_lineSize : yX3_lineSize.cls = RX3 ∧ yX3_lineSize.cls ≠ "java/lang/invoke/MethodHandle" ∧ yX3_lineSize.cls ≠ "java/lang/invoke/VarHandle" ∧ (parseMethodDescriptor yX3_lineSize.desc).map (fun d => d.parameters.length) = some 1 := by decide +kernel
theorem ct_X3_lineSize (l : Launch) (G : Gt) (KS : Ks l G) (x : Nat) (M : Mt) {a : Int} (hR : RI (M 1)) (ha : 0 ≤ a ∧ a < M 1 6) : TI l G yX3_lineSize cX3_lineSize 2 (some FieldType.int) 2 x [vI a] M (fun v M' => v = lnS (M 1) a ∧ M = M') := by
  intro h0 h hT
  refine ct_of KS (by decide) (Nat.le_of_ble_eq_true rfl) (fun X F E => ?_)
  refine j_lv (lv' := [(0, .ref x), (1, vI a)]) ⟨rfl, rfl, trivial⟩ ?_
  have hl := hR.lines
  have hm := hR.many
  have hr9 := hR.ref
  have hln := hR.ln ha.1 ha.2
  refine j_aload_n F rfl dX3_lineSize_0 ?_
  refine t_get F hT 1 (by decide) rfl q1487 dX3_lineSize_1 ?_
  refine j_sipush F (by decide) dX3_lineSize_4 ?_
  refine j_iload_n F rfl dX3_lineSize_7 ?_
  refine j_iadd F dX3_lineSize_8 ?_
  refine t_iald F hT 1 tm_1 (by omega) dX3_lineSize_9 ?_
  refine j_iconst F dX3_lineSize_10 ?_
  refine j_icmp_ne F 18 (by decide) (by omega) (by omega) dX3_lineSize_11 (fun c11 => ?_) (fun c11 => ?_)
  · skip
    refine j_aload_n F rfl dX3_lineSize_18 ?_
    refine j_aload_n F rfl dX3_lineSize_19 ?_
    refine t_get F hT 1 (by decide) rfl q1487 dX3_lineSize_20 ?_
    refine j_sipush F (by decide) dX3_lineSize_23 ?_
    refine j_iload_n F rfl dX3_lineSize_26 ?_
    refine j_iadd F dX3_lineSize_27 ?_
    refine t_iald F hT 1 tm_1 (by omega) dX3_lineSize_28 ?_
    refine t_callI F hT (ct_X3_sizeOf l G KS x M (c := M 1 (925 + a)) (by omega)) (by decide) (by decide) (lw_V q1641 q1643 qs57 q110 q1644) pd_X3_sizeOf rfl (Nat.le_of_ble_eq_true rfl) (Nat.le_refl _) (Nat.le_refl _) dX3_lineSize_29 (fun v29 M' h hv29 hT => ?_)
    obtain ⟨hv29, rfl⟩ := hv29
    exact j_iret F E (Nat.zero_le _) (Nat.zero_le _) dX3_lineSize_32 (ti_post hT ⟨by unfold lnS; first | rw [if_pos (by omega)] | (rw [if_neg (by omega)]; exact hv29), rfl⟩)
  · skip
    refine j_iconst F dX3_lineSize_14 ?_
    refine j_goto F 32 (by decide) dX3_lineSize_15 ?_
    exact j_iret F E (Nat.zero_le _) (Nat.zero_le _) dX3_lineSize_32 (ti_post hT ⟨by unfold lnS; first | rw [if_pos (by omega)] | (rw [if_neg (by omega)]; exact hv29), rfl⟩)

theorem pd_X3_line : yX3_line.cls = RX3 ∧ yX3_line.cls ≠ "java/lang/invoke/MethodHandle" ∧ yX3_line.cls ≠ "java/lang/invoke/VarHandle" ∧ (parseMethodDescriptor yX3_line.desc).map (fun d => d.parameters.length) = some 2 := by decide +kernel
theorem ct_X3_line (l : Launch) (G : Gt) (KS : Ks l G) (x : Nat) (M : Mt) {a b : Int} (ha : rg a) (hb : rg b) (hR : RI (M 1)) : TI l G yX3_line cX3_line 3 (some FieldType.int) 3 x [vI a, vI b] M (fun v M' => tsm M M' ∧ M' 1 = M 1 ∧ Sline (M 1) a b v) := by
  intro h0 h hT
  refine ct_of KS (by decide) (Nat.le_of_ble_eq_true rfl) (fun X F E => ?_)
  refine j_lv (lv' := [(0, .ref x), (1, vI a), (2, vI b)]) ⟨rfl, rfl, rfl, trivial⟩ ?_
  have ha' := ha
  have hb' := hb
  unfold rg at ha hb
  have hl := hR.lines
  have hm := hR.many
  have hr9 := hR.ref
  refine j_aload_n F rfl dX3_line_0 ?_
  refine j_iconst F dX3_line_1 ?_
  refine t_put F hT 0 (by decide) rfl rfl rfl (by decide) q1486 dX3_line_2 (fun h hT => ?_)
  refine j_aload_n F rfl dX3_line_5 ?_
  refine j_iload_n F rfl dX3_line_6 ?_
  refine t_callI F hT (ct_X3_isLine l G KS x _ ha' hR) (by decide) (by decide) (lw_V q1788 q1790 qs82 q110 q1791) pd_X3_isLine rfl (Nat.le_of_ble_eq_true rfl) (Nat.le_refl _) (Nat.le_refl _) dX3_line_7 (fun v7 M' h hv7 hT => ?_)
  obtain ⟨hv7, rfl⟩ := hv7
  have e7 : v7 = if 0 ≤ a ∧ a ≤ M 1 6 - 1 then 1 else 0 := hv7
  have z7 := z01 e7
  refine j_if_eq F 28 (by decide) (by omega) dX3_line_10 (fun c10 => ?_) (fun c10 => ?_)
  · skip
    refine j_bipush F (by decide) dX3_line_28 ?_
    exact j_iret F E (Nat.zero_le _) (Nat.zero_le _) dX3_line_30 (ti_post hT ⟨⟨rfl, rfl, rfl, rfl, rfl, rfl⟩, rfl, by unfold Sline; rw [if_neg (by first | (split at e7 <;> omega) | (split at hv22 <;> omega))]⟩)
  · skip
    have hin : 0 ≤ a ∧ a ≤ M 1 6 - 1 := by split at e7 <;> omega
    have hln := hR.ln hin.1 (by omega)
    have hls : 0 ≤ lnS (M 1) a ∧ lnS (M 1) a ≤ 30 := by
      unfold lnS
      split
      · omega
      · rename_i q
        have := hR.cl (c := M 1 (925 + a)) (by omega) (by omega)
        omega
    refine j_iload_n F rfl dX3_line_13 ?_
    refine j_iconst F dX3_line_14 ?_
    refine j_aload_n F rfl dX3_line_15 ?_
    refine j_iload_n F rfl dX3_line_16 ?_
    refine t_callI F hT (ct_X3_lineSize l G KS x _ (a := a) hR (show 0 ≤ a ∧ a < M 1 6 by omega)) (by decide) (by decide) (lw_V q1792 q1794 qs83 q110 q1795) pd_X3_lineSize rfl (Nat.le_of_ble_eq_true rfl) (Nat.le_refl _) (Nat.le_refl _) dX3_line_17 (fun v17 M' h hv17 hT => ?_)
    obtain ⟨hv17, rfl⟩ := hv17
    have e17 : v17 = lnS (M 1) a := hv17
    subst e17
    refine j_iconst F dX3_line_20 ?_
    refine j_isub F dX3_line_21 ?_
    refine s_callI F (ct_X3_isIn l G KS hb' (b := -1) (c := lnS (M 1) a - 1) (by unfold rg; omega) (by unfold rg; omega)) (by decide) (by decide) (lw_S q1598 q1599 q110 q1600) pd_X3_isIn rfl (Nat.le_of_ble_eq_true rfl) (Nat.le_refl _) (Nat.le_refl _) dX3_line_22 (fun v22 hv22 => ?_)
    have z22 := z01 hv22
    refine j_if_ne F 31 (by decide) (by omega) dX3_line_25 (fun c25 => ?_) (fun c25 => ?_)
    · skip
      have hi2 : -1 ≤ b ∧ b ≤ lnS (M 1) a - 1 := by split at hv22 <;> omega
      refine j_iload_n F rfl dX3_line_31 ?_
      refine j_iconst F dX3_line_32 ?_
      refine j_icmp_ne F 44 (by decide) (by omega) (by omega) dX3_line_33 (fun c33 => ?_) (fun c33 => ?_)
      · skip
        have hnn : ¬ M 1 (925 + a) = -1 := fun q => by unfold lnS at hi2; rw [if_pos q] at hi2; omega
        refine j_aload_n F rfl dX3_line_44 ?_
        refine j_aload_n F rfl dX3_line_45 ?_
        refine t_get F hT 1 (by decide) rfl q1487 dX3_line_46 ?_
        refine j_sipush F (by decide) dX3_line_49 ?_
        refine j_iload_n F rfl dX3_line_52 ?_
        refine j_iadd F dX3_line_53 ?_
        refine t_ialdw F hT 1 tm_1 (M 1 (925 + a)) rfl (by omega) dX3_line_54 ?_
        refine j_iload_n F rfl dX3_line_55 ?_
        refine t_callI F hT (ct_X3_literal l G KS x _ (c := M 1 (925 + a)) (k := b) (by omega) (by omega)) (by decide) (by decide) (lw_V q1685 q1687 qs65 q110 q1688) pd_X3_literal rfl (Nat.le_of_ble_eq_true rfl) (Nat.le_refl _) (Nat.le_refl _) dX3_line_56 (fun v56 M' h hv56 hT => ?_)
        obtain ⟨hv56, rfl⟩ := hv56
        have e56 : v56 = lit (M 1) (M 1 (925 + a)) b := hv56
        subst e56
        exact j_iret F E (Nat.zero_le _) (Nat.zero_le _) dX3_line_59 (ti_post hT ⟨⟨rfl, rfl, rfl, rfl, rfl, rfl⟩, rfl, by unfold Sline; rw [if_pos (by omega)]; first | rw [if_pos (by omega)] | rw [if_neg (by omega)]⟩)
      · skip
        skip
        refine j_aload_n F rfl dX3_line_36 ?_
        refine j_iload_n F rfl dX3_line_37 ?_
        refine t_callI F hT (ct_X3_lineSize l G KS x _ (a := a) hR (show 0 ≤ a ∧ a < M 1 6 by omega)) (by decide) (by decide) (lw_V q1792 q1794 qs83 q110 q1795) pd_X3_lineSize rfl (Nat.le_of_ble_eq_true rfl) (Nat.le_refl _) (Nat.le_refl _) dX3_line_38 (fun v38 M' h hv38 hT => ?_)
        obtain ⟨hv38, rfl⟩ := hv38
        have e38 : v38 = lnS (M 1) a := hv38
        subst e38
        refine j_goto F 59 (by decide) dX3_line_41 ?_
        exact j_iret F E (Nat.zero_le _) (Nat.zero_le _) dX3_line_59 (ti_post hT ⟨⟨rfl, rfl, rfl, rfl, rfl, rfl⟩, rfl, by unfold Sline; rw [if_pos (by omega)]; first | rw [if_pos (by omega)] | rw [if_neg (by omega)]⟩)
    · skip
      refine j_bipush F (by decide) dX3_line_28 ?_
      exact j_iret F E (Nat.zero_le _) (Nat.zero_le _) dX3_line_30 (ti_post hT ⟨⟨rfl, rfl, rfl, rfl, rfl, rfl⟩, rfl, by unfold Sline; rw [if_neg (by first | (split at e7 <;> omega) | (split at hv22 <;> omega))]⟩)

theorem pd_X3_isModel : yX3_isModel.cls = RX3 ∧ yX3_isModel.cls ≠ "java/lang/invoke/MethodHandle" ∧ yX3_isModel.cls ≠ "java/lang/invoke/VarHandle" ∧ (parseMethodDescriptor yX3_isModel.desc).map (fun d => d.parameters.length) = some 1 := by decide +kernel
theorem ct_X3_isModel (l : Launch) (G : Gt) (KS : Ks l G) (x : Nat) (M : Mt) {a : Int} (hR : RI (M 1)) : TI l G yX3_isModel cX3_isModel 5 (some FieldType.boolean) 2 x [vI a] M (fun v M' => ((v = 1 ↔ mdl (M 1) a) ∧ (v = 0 ∨ v = 1)) ∧ M = M') := by
  intro h0 h hT
  refine ct_of KS (by decide) (Nat.le_of_ble_eq_true rfl) (fun X F E => ?_)
  refine j_lv (lv' := [(0, .ref x), (1, vI a)]) ⟨rfl, rfl, trivial⟩ ?_
  have hm := hR.many
  refine j_iconst F dX3_isModel_0 ?_
  refine j_istore_n F (by decide) dX3_isModel_1 ?_
  have L2 : ∀ (m2 : Nat) (i : Int) (h : Hp), (0 ≤ i ∧ i ≤ M 1 1 ∧ ∀ c : Int, 0 ≤ c → c < i → hld (M 1) a c (siz (M 1) c)) → (M 1 1 - i).toNat < m2 → Tw G x M h0 h → J X h 2 [(0, .ref x), (1, vI a), (2, vI i)] [] 0 0 := by
    intro m2
    induction m2 with
    | zero => intro i h hI hm2 hT; exact absurd hm2 (Nat.not_lt_zero _)
    | succ m2 ih2 =>
      intro i h hI hm2 hT
      obtain ⟨hI0, hI1, hI2⟩ := hI
      refine j_iload_n F rfl dX3_isModel_2 ?_
      refine j_aload_n F rfl dX3_isModel_3 ?_
      refine t_get F hT 1 (by decide) rfl q1487 dX3_isModel_4 ?_
      refine j_iconst F dX3_isModel_7 ?_
      refine t_iald F hT 1 tm_1 (by omega) dX3_isModel_8 ?_
      refine j_icmp_ge F 102 (by decide) (by omega) (by omega) dX3_isModel_9 (fun c9 => ?_) (fun c9 => ?_)
      · skip
        refine j_iconst F dX3_isModel_102 ?_
        exact j_zret F E (by omega) (Nat.zero_le _) (Nat.zero_le _) dX3_isModel_103 (ti_post hT ⟨⟨⟨fun _ => fun c c0 c1 => hI2 c c0 (by omega), fun _ => rfl⟩, by omega⟩, rfl⟩)
      · skip
        have hcl := hR.cl hI0 (by omega)
        have hfl : flg (M 1) i = M 1 (525 + i) := rfl
        refine j_aload_n F rfl dX3_isModel_12 ?_
        refine j_iload_n F rfl dX3_isModel_13 ?_
        refine t_callI F hT (ct_X3_isLearnt l G KS x M (c := i) (by omega) (by omega)) (by decide) (by decide) (lw_V q1633 q1635 qs55 q110 q1636) pd_X3_isLearnt rfl (Nat.le_of_ble_eq_true rfl) (Nat.le_refl _) (Nat.le_refl _) dX3_isModel_14 (fun v14 M' h hv14 hT => ?_)
        obtain ⟨hv14, rfl⟩ := hv14
        have e14 : v14 = if flg (M 1) i = 1 ∨ flg (M 1) i = 3 then 1 else 0 := hv14
        have z14 := z01 e14
        refine j_istore_n F (by decide) dX3_isModel_17 ?_
        refine j_iconst F dX3_isModel_18 ?_
        refine j_istore F (by decide) dX3_isModel_19 ?_
        have L21 : ∀ (m21 : Nat) (k q : Int) (h : Hp), (0 ≤ k ∧ k ≤ siz (M 1) i ∧ (q = 0 ∨ q = 1) ∧ (q = 1 ↔ hld (M 1) a i k)) → (siz (M 1) i - k).toNat < m21 → Tw G x M h0 h → J X h 21 [(0, .ref x), (1, vI a), (2, vI i), (3, vI q), (4, vI k)] [] 0 0 := by
          intro m21
          induction m21 with
          | zero => intro k q h hI hm21 hT; exact absurd hm21 (Nat.not_lt_zero _)
          | succ m21 ih21 =>
            intro k q h hI hm21 hT
            obtain ⟨hK0, hK1, hK2, hK3⟩ := hI
            refine j_iload F rfl dX3_isModel_21 ?_
            refine j_aload_n F rfl dX3_isModel_23 ?_
            refine j_iload_n F rfl dX3_isModel_24 ?_
            refine t_callI F hT (ct_X3_sizeOf l G KS x M (c := i) (by omega)) (by decide) (by decide) (lw_V q1641 q1643 qs57 q110 q1644) pd_X3_sizeOf rfl (Nat.le_of_ble_eq_true rfl) (Nat.le_refl _) (Nat.le_refl _) dX3_isModel_25 (fun v25 M' h hv25 hT => ?_)
            obtain ⟨hv25, rfl⟩ := hv25
            have e25 : v25 = siz (M 1) i := hv25
            subst e25
            refine j_icmp_ge F 90 (by decide) (by omega) (by omega) dX3_isModel_28 (fun c28 => ?_) (fun c28 => ?_)
            · skip
              refine j_iload_n F rfl dX3_isModel_90 ?_
              refine j_if_ne F 96 (by decide) (by omega) dX3_isModel_91 (fun c91 => ?_) (fun c91 => ?_)
              · skip
                have hyes : hld (M 1) a i (siz (M 1) i) := hld_w (by omega) (hK3.mp (by omega))
                refine j_iinc F rfl (by decide) dX3_isModel_96 ?_
                refine j_goto F 2 (by decide) dX3_isModel_99 ?_
                refine j_lv (lv' := [(0, .ref x), (1, vI a), (2, vI (i + 1))]) ⟨rfl, rfl, rfl, trivial⟩ ?_
                exact ih2 (i + 1) _ ⟨by omega, by omega, fun c c0 c1 => if e : c = i then (by rw [e]; exact hyes) else hI2 c c0 (by omega)⟩ (by omega) hT
              · skip
                refine j_iconst F dX3_isModel_94 ?_
                exact j_zret F E (by omega) (Nat.zero_le _) (Nat.zero_le _) dX3_isModel_95 (ti_post hT ⟨⟨⟨fun q => by omega, fun q => absurd (hK3.mpr (by first | (rw [show k = siz (M 1) i by omega]; exact q i hI0 (by omega)) | omega)) (by omega)⟩, by omega⟩, rfl⟩)
            · skip
              refine j_iload_n F rfl dX3_isModel_31 ?_
              refine j_if_ne F 90 (by decide) (by omega) dX3_isModel_32 (fun c32 => ?_) (fun c32 => ?_)
              · skip
                refine j_iload_n F rfl dX3_isModel_90 ?_
                refine j_if_ne F 96 (by decide) (by omega) dX3_isModel_91 (fun c91 => ?_) (fun c91 => ?_)
                · skip
                  have hyes : hld (M 1) a i (siz (M 1) i) := hld_w (by omega) (hK3.mp (by omega))
                  refine j_iinc F rfl (by decide) dX3_isModel_96 ?_
                  refine j_goto F 2 (by decide) dX3_isModel_99 ?_
                  refine j_lv (lv' := [(0, .ref x), (1, vI a), (2, vI (i + 1))]) ⟨rfl, rfl, rfl, trivial⟩ ?_
                  exact ih2 (i + 1) _ ⟨by omega, by omega, fun c c0 c1 => if e : c = i then (by rw [e]; exact hyes) else hI2 c c0 (by omega)⟩ (by omega) hT
                · skip
                  refine j_iconst F dX3_isModel_94 ?_
                  exact j_zret F E (by omega) (Nat.zero_le _) (Nat.zero_le _) dX3_isModel_95 (ti_post hT ⟨⟨⟨fun q => by omega, fun q => absurd (hK3.mpr (by first | (rw [show k = siz (M 1) i by omega]; exact q i hI0 (by omega)) | omega)) (by omega)⟩, by omega⟩, rfl⟩)
              · skip
                have hll := (hR.ll hI0 (by omega) hK0 (by omega)).2
                have hli := iab_rg hll
                refine j_joinT (x := x) (M := M) (G := G) (h0 := h0) 60 (fun w1 => w1 = if and9 (shr9 a (iab (lit (M 1) i k) - 1)) 1 = 1 then 1 else 0) (fun w1 h hw1 hT => ?_) (fun Kj35 => ?_)
                · skip
                  refine j_joinT (x := x) (M := M) (G := G) (h0 := h0) 75 (fun w2 => w2 = if 0 < lit (M 1) i k then 1 else 0) (fun w2 h hw2 hT => ?_) (fun Kj60 => ?_)
                  · skip
                    refine j_icmp_ne F 82 (by decide) (by split at hw1 <;> omega) (by split at hw2 <;> omega) dX3_isModel_75 (fun c75 => ?_) (fun c75 => ?_)
                    · skip
                      have hs9 : ¬ sat9 (M 1) a i k := by unfold sat9; split at hw1 <;> split at hw2 <;> omega
                      refine j_iconst F dX3_isModel_82 ?_
                      refine j_istore_n F (by decide) dX3_isModel_83 ?_
                      refine j_iinc F rfl (by decide) dX3_isModel_84 ?_
                      refine j_goto F 21 (by decide) dX3_isModel_87 ?_
                      refine j_lv (lv' := [(0, .ref x), (1, vI a), (2, vI i), (3, vI 0), (4, vI (k + 1))]) ⟨rfl, rfl, rfl, rfl, rfl, trivial⟩ ?_
                      exact ih21 (k + 1) 0 _ ⟨by omega, by omega, by omega, hld_s hK0 (by omega) hK3 (⟨fun q => by omega, fun q => absurd q hs9⟩)⟩ (by omega) hT
                    · skip
                      have hs9 : sat9 (M 1) a i k := by unfold sat9; split at hw1 <;> split at hw2 <;> omega
                      refine j_iconst F dX3_isModel_78 ?_
                      refine j_goto F 83 (by decide) dX3_isModel_79 ?_
                      refine j_istore_n F (by decide) dX3_isModel_83 ?_
                      refine j_iinc F rfl (by decide) dX3_isModel_84 ?_
                      refine j_goto F 21 (by decide) dX3_isModel_87 ?_
                      refine j_lv (lv' := [(0, .ref x), (1, vI a), (2, vI i), (3, vI 1), (4, vI (k + 1))]) ⟨rfl, rfl, rfl, rfl, rfl, trivial⟩ ?_
                      exact ih21 (k + 1) 1 _ ⟨by omega, by omega, by omega, hld_s hK0 (by omega) hK3 (⟨fun _ => hs9, fun _ => rfl⟩)⟩ (by omega) hT
                  · skip
                    refine j_aload_n F rfl dX3_isModel_60 ?_
                    refine j_iload_n F rfl dX3_isModel_61 ?_
                    refine j_iload F rfl dX3_isModel_62 ?_
                    refine t_callI F hT (ct_X3_literal l G KS x M (c := i) (k := k) (by omega) (by omega)) (by decide) (by decide) (lw_V q1685 q1687 qs65 q110 q1688) pd_X3_literal rfl (Nat.le_of_ble_eq_true rfl) (Nat.le_refl _) (Nat.le_refl _) dX3_isModel_64 (fun v64 M' h hv64 hT => ?_)
                    obtain ⟨hv64, rfl⟩ := hv64
                    have e64 : v64 = lit (M 1) i k := hv64
                    subst e64
                    refine j_if_le F 74 (by decide) (by omega) dX3_isModel_67 (fun c67 => ?_) (fun c67 => ?_)
                    · skip
                      refine j_iconst F dX3_isModel_74 ?_
                      exact Kj60 _ _ (by split <;> omega) hT
                    · skip
                      refine j_iconst F dX3_isModel_70 ?_
                      refine j_goto F 75 (by decide) dX3_isModel_71 ?_
                      exact Kj60 _ _ (by split <;> omega) hT
                · skip
                  refine j_iload_n F rfl dX3_isModel_35 ?_
                  refine j_aload_n F rfl dX3_isModel_36 ?_
                  refine j_iload_n F rfl dX3_isModel_37 ?_
                  refine j_iload F rfl dX3_isModel_38 ?_
                  refine t_callI F hT (ct_X3_literal l G KS x M (c := i) (k := k) (by omega) (by omega)) (by decide) (by decide) (lw_V q1685 q1687 qs65 q110 q1688) pd_X3_literal rfl (Nat.le_of_ble_eq_true rfl) (Nat.le_refl _) (Nat.le_refl _) dX3_isModel_40 (fun v40 M' h hv40 hT => ?_)
                  obtain ⟨hv40, rfl⟩ := hv40
                  have e40 : v40 = lit (M 1) i k := hv40
                  subst e40
                  refine s_callI F (ct_X3_size l G KS (a := lit (M 1) i k) (by unfold rg; omega)) (by decide) (by decide) (lw_S q1591 q1592 q110 q1593) pd_X3_size rfl (Nat.le_of_ble_eq_true rfl) (Nat.le_refl _) (Nat.le_refl _) dX3_isModel_43 (fun v43 hv43 => ?_)
                  subst hv43
                  refine j_iconst F dX3_isModel_46 ?_
                  refine j_isub F dX3_isModel_47 ?_
                  refine j_ishr F _ (shr9_e _ _) dX3_isModel_48 ?_
                  refine j_iconst F dX3_isModel_49 ?_
                  refine j_iand F _ (and9_e _ _) dX3_isModel_50 ?_
                  refine j_iconst F dX3_isModel_51 ?_
                  refine j_icmp_ne F 59 (by decide) (and9_r _ _) (by omega) dX3_isModel_52 (fun c52 => ?_) (fun c52 => ?_)
                  · skip
                    refine j_iconst F dX3_isModel_59 ?_
                    exact Kj35 _ _ (by split <;> omega) hT
                  · skip
                    refine j_iconst F dX3_isModel_55 ?_
                    refine j_goto F 60 (by decide) dX3_isModel_56 ?_
                    exact Kj35 _ _ (by split <;> omega) hT
        refine j_lv (lv' := [(0, .ref x), (1, vI a), (2, vI i), (3, vI v14), (4, vI 0)]) ⟨rfl, rfl, rfl, rfl, rfl, trivial⟩ ?_
        exact L21 _ 0 v14 _ ⟨by omega, by omega, z14, by unfold hld; constructor; (intro q; exact Or.inl (by split at e14 <;> omega)); (intro q; rcases q with q | ⟨k, k0, k1, k2⟩; (split at e14 <;> omega); omega)⟩ (Nat.lt_succ_self _) hT
  refine j_lv (lv' := [(0, .ref x), (1, vI a), (2, vI 0)]) ⟨rfl, rfl, rfl, trivial⟩ ?_
  exact L2 _ 0 _ ⟨by omega, by omega, fun c c0 c1 => by omega⟩ (Nat.lt_succ_self _) hT
