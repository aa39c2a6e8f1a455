/-! words of the pure laws: the row R of numbers -/
def iab (a : Int) : Int := if a < 0 then -a else a
/-- a literal of V variables -/
def lok (V a : Int) : Prop := a ≠ 0 ∧ -V ≤ a ∧ a ≤ V
/-- a variable stands already among n literals from b on -/
def thr (R : Int → Int) (b n a : Int) : Prop := ∃ k : Int, 0 ≤ k ∧ k < n ∧ iab (R (b + k)) = iab a
theorem and1 {f : Int} (hf : 0 ≤ f ∧ f ≤ 3) : Int32.ofInt f &&& Int32.ofInt 1 = Int32.ofInt (if f = 1 ∨ f = 3 then 1 else 0) := by
  have : f = 0 ∨ f = 1 ∨ f = 2 ∨ f = 3 := by omega
  rcases this with rfl | rfl | rfl | rfl <;> decide +kernel
theorem and2 {f : Int} (hf : 0 ≤ f ∧ f ≤ 3) : Int32.ofInt f &&& Int32.ofInt 2 = Int32.ofInt (if 2 ≤ f then 2 else 0) := by
  have : f = 0 ∨ f = 1 ∨ f = 2 ∨ f = 3 := by omega
  rcases this with rfl | rfl | rfl | rfl <;> decide +kernel
/-- what a call of the reference leaves alone, beside the row: what is kept, the tape, the fault -/
def tsm (M M' : Mt) : Prop := M' 0 0 = 0 ∧ M' 3 = M 3 ∧ M' 4 = M 4 ∧ M' 21 = M 21 ∧ M' 22 0 = M 22 0 ∧ M' 25 0 = M 25 0
theorem pd_X3_isIn : yX3_isIn.cls ≠ "java/lang/invoke/MethodHandle" ∧ yX3_isIn.cls ≠ "java/lang/invoke/VarHandle" ∧ (parseMethodDescriptor yX3_isIn.desc).map (fun d => d.parameters.length) = some 3 := by decide +kernel
theorem ct_X3_isIn (l : Launch) (G : Gt) (KS : Ks l G) {a b c : Int} (ha : rg a) (hb : rg b) (hc : rg c) : SI l G yX3_isIn cX3_isIn 3 (some FieldType.boolean) 1 [vI a, vI b, vI c] (fun v => v = if b ≤ a ∧ a ≤ c then 1 else 0) := by
  intro h
  refine ct_of KS (by decide) (Nat.le_of_ble_eq_true rfl) (fun X F E => ?_)
  refine j_lv (lv' := [(0, vI a), (1, vI b), (2, vI c)]) ⟨rfl, rfl, rfl, trivial⟩ ?_
  unfold rg at ha hb hc
  refine j_iload_n F rfl dX3_isIn_0 ?_
  refine j_iload_n F rfl dX3_isIn_1 ?_
  refine j_icmp_lt F 14 (by decide) (by omega) (by omega) dX3_isIn_2 (fun c2 => ?_) (fun c2 => ?_)
  · skip
    refine j_iconst F dX3_isIn_14 ?_
    exact j_zret F E (by omega) (Nat.zero_le _) (Nat.zero_le _) dX3_isIn_15 ⟨_, rfl, (by split <;> omega), rfl⟩
  · skip
    refine j_iload_n F rfl dX3_isIn_5 ?_
    refine j_iload_n F rfl dX3_isIn_6 ?_
    refine j_icmp_gt F 14 (by decide) (by omega) (by omega) dX3_isIn_7 (fun c7 => ?_) (fun c7 => ?_)
    · skip
      refine j_iconst F dX3_isIn_14 ?_
      exact j_zret F E (by omega) (Nat.zero_le _) (Nat.zero_le _) dX3_isIn_15 ⟨_, rfl, (by split <;> omega), rfl⟩
    · skip
      refine j_iconst F dX3_isIn_10 ?_
      refine j_goto F 15 (by decide) dX3_isIn_11 ?_
      exact j_zret F E (by omega) (Nat.zero_le _) (Nat.zero_le _) dX3_isIn_15 ⟨_, rfl, (by split <;> omega), rfl⟩

theorem pd_X3_size : yX3_size.cls ≠ "java/lang/invoke/MethodHandle" ∧ yX3_size.cls ≠ "java/lang/invoke/VarHandle" ∧ (parseMethodDescriptor yX3_size.desc).map (fun d => d.parameters.length) = some 1 := by decide +kernel
theorem ct_X3_size (l : Launch) (G : Gt) (KS : Ks l G) {a : Int} (ha : rg a) : SI l G yX3_size cX3_size 1 (some FieldType.int) 1 [vI a] (fun v => v = iab a) := by
  intro h
  refine ct_of KS (by decide) (Nat.le_of_ble_eq_true rfl) (fun X F E => ?_)
  refine j_lv (lv' := [(0, vI a)]) ⟨rfl, trivial⟩ ?_
  unfold rg at ha
  refine j_iload_n F rfl dX3_size_0 ?_
  refine j_if_ge F 9 (by decide) (by omega) dX3_size_1 (fun c1 => ?_) (fun c1 => ?_)
  · skip
    refine j_iload_n F rfl dX3_size_9 ?_
    exact j_iret F E (Nat.zero_le _) (Nat.zero_le _) dX3_size_10 ⟨_, rfl, (by unfold iab; split <;> omega), rfl⟩
  · skip
    refine j_iload_n F rfl dX3_size_4 ?_
    refine j_ineg F dX3_size_5 ?_
    refine j_goto F 10 (by decide) dX3_size_6 ?_
    exact j_iret F E (Nat.zero_le _) (Nat.zero_le _) dX3_size_10 ⟨_, rfl, (by unfold iab; split <;> omega), rfl⟩

theorem pd_X3_thrown : yX3_thrown.cls = RX3 ∧ yX3_thrown.cls ≠ "java/lang/invoke/MethodHandle" ∧ yX3_thrown.cls ≠ "java/lang/invoke/VarHandle" ∧ (parseMethodDescriptor yX3_thrown.desc).map (fun d => d.parameters.length) = some 0 := by decide +kernel
theorem ct_X3_thrown (l : Launch) (G : Gt) (KS : Ks l G) (x : Nat) (M : Mt) : TI l G yX3_thrown cX3_thrown 1 (some FieldType.int) 1 x [] M (fun v M' => v = M 0 0 ∧ M = M') := by
  intro h0 h hT
  refine ct_of KS (by decide) (Nat.le_of_ble_eq_true rfl) (fun X F E => ?_)
  refine j_lv (lv' := [(0, .ref x)]) ⟨rfl, trivial⟩ ?_
  refine j_aload_n F rfl dX3_thrown_0 ?_
  refine t_get F hT 0 (by decide) rfl q1486 dX3_thrown_1 ?_
  exact j_iret F E (Nat.zero_le _) (Nat.zero_le _) dX3_thrown_4 (ti_post hT ⟨rfl, rfl⟩)

theorem pd_X3_isVariable : yX3_isVariable.cls = RX3 ∧ yX3_isVariable.cls ≠ "java/lang/invoke/MethodHandle" ∧ yX3_isVariable.cls ≠ "java/lang/invoke/VarHandle" ∧ (parseMethodDescriptor yX3_isVariable.desc).map (fun d => d.parameters.length) = some 1 := by decide +kernel
theorem ct_X3_isVariable (l : Launch) (G : Gt) (KS : Ks l G) (x : Nat) (M : Mt) {a : Int} (ha : rg a) (hV : 0 ≤ M 1 0 ∧ M 1 0 ≤ 30) : TI l G yX3_isVariable cX3_isVariable 2 (some FieldType.boolean) 2 x [vI a] M (fun v M' => (v = if 1 ≤ a ∧ a ≤ M 1 0 then 1 else 0) ∧ M = M') := by
  intro h0 h hT
  refine ct_of KS (by decide) (Nat.le_of_ble_eq_true rfl) (fun X F E => ?_)
  refine j_lv (lv' := [(0, .ref x), (1, vI a)]) ⟨rfl, rfl, trivial⟩ ?_
  refine j_iload_n F rfl dX3_isVariable_0 ?_
  refine j_iconst F dX3_isVariable_1 ?_
  refine j_aload_n F rfl dX3_isVariable_2 ?_
  refine t_get F hT 1 (by decide) rfl q1487 dX3_isVariable_3 ?_
  refine j_iconst F dX3_isVariable_6 ?_
  refine t_iald F hT 1 tm_1 (by omega) dX3_isVariable_7 ?_
  refine s_callI F (ct_X3_isIn l G KS ha (by unfold rg; omega) (by unfold rg; omega)) (by decide) (by decide) (lw_S q1598 q1599 q110 q1600) pd_X3_isIn rfl (Nat.le_of_ble_eq_true rfl) (Nat.le_refl _) (Nat.le_refl _) dX3_isVariable_8 (fun v8 hv8 => ?_)
  exact j_zret F E (z01 hv8) (Nat.zero_le _) (Nat.zero_le _) dX3_isVariable_11 (ti_post hT ⟨hv8, rfl⟩)

theorem pd_X3_isLiteral : yX3_isLiteral.cls = RX3 ∧ yX3_isLiteral.cls ≠ "java/lang/invoke/MethodHandle" ∧ yX3_isLiteral.cls ≠ "java/lang/invoke/VarHandle" ∧ (parseMethodDescriptor yX3_isLiteral.desc).map (fun d => d.parameters.length) = some 1 := by decide +kernel
theorem ct_X3_isLiteral (l : Launch) (G : Gt) (KS : Ks l G) (x : Nat) (M : Mt) {a : Int} (ha : rg a) (hV : 0 ≤ M 1 0 ∧ M 1 0 ≤ 30) : TI l G yX3_isLiteral cX3_isLiteral 2 (some FieldType.boolean) 3 x [vI a] M (fun v M' => ((v = 1 ↔ lok (M 1 0) a) ∧ (v = 0 ∨ v = 1)) ∧ M = M') := by
  intro h0 h hT
  refine ct_of KS (by decide) (Nat.le_of_ble_eq_true rfl) (fun X F E => ?_)
  refine j_lv (lv' := [(0, .ref x), (1, vI a)]) ⟨rfl, rfl, trivial⟩ ?_
  have ha' := ha
  unfold rg at ha
  refine j_iload_n F rfl dX3_isLiteral_0 ?_
  refine j_bipush F (by decide) dX3_isLiteral_1 ?_
  refine j_icmp_lt F 27 (by decide) (by omega) (by omega) dX3_isLiteral_3 (fun c3 => ?_) (fun c3 => ?_)
  · skip
    refine j_iconst F dX3_isLiteral_27 ?_
    exact j_zret F E (by omega) (Nat.zero_le _) (Nat.zero_le _) dX3_isLiteral_28 (ti_post hT ⟨by unfold lok at *; omega, rfl⟩)
  · skip
    refine j_iload_n F rfl dX3_isLiteral_6 ?_
    refine j_bipush F (by decide) dX3_isLiteral_7 ?_
    refine j_icmp_gt F 27 (by decide) (by omega) (by omega) dX3_isLiteral_9 (fun c9 => ?_) (fun c9 => ?_)
    · skip
      refine j_iconst F dX3_isLiteral_27 ?_
      exact j_zret F E (by omega) (Nat.zero_le _) (Nat.zero_le _) dX3_isLiteral_28 (ti_post hT ⟨by unfold lok at *; omega, rfl⟩)
    · skip
      refine j_aload_n F rfl dX3_isLiteral_12 ?_
      refine j_iload_n F rfl dX3_isLiteral_13 ?_
      refine s_callI F (ct_X3_size l G KS ha') (by decide) (by decide) (lw_S q1591 q1592 q110 q1593) pd_X3_size rfl (Nat.le_of_ble_eq_true rfl) (Nat.le_refl _) (Nat.le_refl _) dX3_isLiteral_14 (fun v14 hv14 => ?_)
      unfold iab at hv14
      refine t_callI F hT (ct_X3_isVariable l G KS x M (by unfold rg; split at hv14 <;> omega) hV) (by decide) (by decide) (lw_V q1594 q1596 qs52 q110 q1597) pd_X3_isVariable rfl (Nat.le_of_ble_eq_true rfl) (Nat.le_refl _) (Nat.le_refl _) dX3_isLiteral_17 (fun v17 M' h hv17 hT => ?_)
      obtain ⟨hv17, rfl⟩ := hv17
      have e17 : (v17 = 1 ↔ lok (M 1 0) a) ∧ (v17 = 0 ∨ v17 = 1) := by
        unfold lok; split at hv14 <;> split at hv17 <;> omega
      refine j_if_eq F 27 (by decide) (by omega) dX3_isLiteral_20 (fun c20 => ?_) (fun c20 => ?_)
      · skip
        refine j_iconst F dX3_isLiteral_27 ?_
        exact j_zret F E (by omega) (Nat.zero_le _) (Nat.zero_le _) dX3_isLiteral_28 (ti_post hT ⟨by unfold lok at *; omega, rfl⟩)
      · skip
        refine j_iconst F dX3_isLiteral_23 ?_
        refine j_goto F 28 (by decide) dX3_isLiteral_24 ?_
        exact j_zret F E (by omega) (Nat.zero_le _) (Nat.zero_le _) dX3_isLiteral_28 (ti_post hT ⟨by unfold lok at *; omega, rfl⟩)

theorem pd_X3_literal : yX3_literal.cls = RX3 ∧ yX3_literal.cls ≠ "java/lang/invoke/MethodHandle" ∧ yX3_literal.cls ≠ "java/lang/invoke/VarHandle" ∧ (parseMethodDescriptor yX3_literal.desc).map (fun d => d.parameters.length) = some 2 := by decide +kernel
theorem ct_X3_literal (l : Launch) (G : Gt) (KS : Ks l G) (x : Nat) (M : Mt) {c k : Int} (hc : 0 ≤ c ∧ c < 400) (hk : 0 ≤ k ∧ k < 30) : TI l G yX3_literal cX3_literal 3 (some FieldType.int) 1 x [vI c, vI k] M (fun v M' => v = M 1 (1326 + 30 * c + k) ∧ M = M') := by
  intro h0 h hT
  refine ct_of KS (by decide) (Nat.le_of_ble_eq_true rfl) (fun X F E => ?_)
  refine j_lv (lv' := [(0, .ref x), (1, vI c), (2, vI k)]) ⟨rfl, rfl, rfl, trivial⟩ ?_
  refine j_aload_n F rfl dX3_literal_0 ?_
  refine t_get F hT 1 (by decide) rfl q1487 dX3_literal_1 ?_
  refine j_sipush F (by decide) dX3_literal_4 ?_
  refine j_bipush F (by decide) dX3_literal_7 ?_
  refine j_iload_n F rfl dX3_literal_9 ?_
  refine j_imul F dX3_literal_10 ?_
  refine j_iadd F dX3_literal_11 ?_
  refine j_iload_n F rfl dX3_literal_12 ?_
  refine j_iadd F dX3_literal_13 ?_
  refine t_iald F hT 1 tm_1 (by omega) dX3_literal_14 ?_
  exact j_iret F E (Nat.zero_le _) (Nat.zero_le _) dX3_literal_15 (ti_post hT ⟨rfl, rfl⟩)

theorem pd_X3_sizeOf : yX3_sizeOf.cls = RX3 ∧ yX3_sizeOf.cls ≠ "java/lang/invoke/MethodHandle" ∧ yX3_sizeOf.cls ≠ "java/lang/invoke/VarHandle" ∧ (parseMethodDescriptor yX3_sizeOf.desc).map (fun d => d.parameters.length) = some 1 := by decide +kernel
theorem ct_X3_sizeOf (l : Launch) (G : Gt) (KS : Ks l G) (x : Nat) (M : Mt) {c : Int} (hc : 0 ≤ c ∧ c < 400) : TI l G yX3_sizeOf cX3_sizeOf 2 (some FieldType.int) 1 x [vI c] M (fun v M' => v = M 1 (125 + c) ∧ M = M') := by
  intro h0 h hT
  refine ct_of KS (by decide) (Nat.le_of_ble_eq_true rfl) (fun X F E => ?_)
  refine j_lv (lv' := [(0, .ref x), (1, vI c)]) ⟨rfl, rfl, trivial⟩ ?_
  refine j_aload_n F rfl dX3_sizeOf_0 ?_
  refine t_get F hT 1 (by decide) rfl q1487 dX3_sizeOf_1 ?_
  refine j_bipush F (by decide) dX3_sizeOf_4 ?_
  refine j_iload_n F rfl dX3_sizeOf_6 ?_
  refine j_iadd F dX3_sizeOf_7 ?_
  refine t_iald F hT 1 tm_1 (by omega) dX3_sizeOf_8 ?_
  exact j_iret F E (Nat.zero_le _) (Nat.zero_le _) dX3_sizeOf_9 (ti_post hT ⟨rfl, rfl⟩)

theorem pd_X3_isGone : yX3_isGone.cls = RX3 ∧ yX3_isGone.cls ≠ "java/lang/invoke/MethodHandle" ∧ yX3_isGone.cls ≠ "java/lang/invoke/VarHandle" ∧ (parseMethodDescriptor yX3_isGone.desc).map (fun d => d.parameters.length) = some 1 := by decide +kernel
theorem ct_X3_isGone (l : Launch) (G : Gt) (KS : Ks l G) (x : Nat) (M : Mt) {c : Int} (hc : 0 ≤ c ∧ c < 400) (hf : 0 ≤ M 1 (525 + c) ∧ M 1 (525 + c) ≤ 3) : TI l G yX3_isGone cX3_isGone 2 (some FieldType.boolean) 1 x [vI c] M (fun v M' => (v = if 2 ≤ M 1 (525 + c) then 1 else 0) ∧ M = M') := by
  intro h0 h hT
  refine ct_of KS (by decide) (Nat.le_of_ble_eq_true rfl) (fun X F E => ?_)
  refine j_lv (lv' := [(0, .ref x), (1, vI c)]) ⟨rfl, rfl, trivial⟩ ?_
  refine j_aload_n F rfl dX3_isGone_0 ?_
  refine t_get F hT 1 (by decide) rfl q1487 dX3_isGone_1 ?_
  refine j_sipush F (by decide) dX3_isGone_4 ?_
  refine j_iload_n F rfl dX3_isGone_7 ?_
  refine j_iadd F dX3_isGone_8 ?_
  refine t_iald F hT 1 tm_1 (by omega) dX3_isGone_9 ?_
  refine j_iconst F dX3_isGone_10 ?_
  refine j_iand F (if 2 ≤ M 1 (525 + c) then 2 else 0) (and2 hf) dX3_isGone_11 ?_
  refine j_if_eq F 19 (by decide) (by split <;> omega) dX3_isGone_12 (fun c12 => ?_) (fun c12 => ?_)
  · skip
    refine j_iconst F dX3_isGone_19 ?_
    exact j_zret F E (by omega) (Nat.zero_le _) (Nat.zero_le _) dX3_isGone_20 (ti_post hT ⟨by split <;> split at c12 <;> omega, rfl⟩)
  · skip
    refine j_iconst F dX3_isGone_15 ?_
    refine j_goto F 20 (by decide) dX3_isGone_16 ?_
    exact j_zret F E (by omega) (Nat.zero_le _) (Nat.zero_le _) dX3_isGone_20 (ti_post hT ⟨by split <;> split at c12 <;> omega, rfl⟩)

theorem pd_X3_isLearnt : yX3_isLearnt.cls = RX3 ∧ yX3_isLearnt.cls ≠ "java/lang/invoke/MethodHandle" ∧ yX3_isLearnt.cls ≠ "java/lang/invoke/VarHandle" ∧ (parseMethodDescriptor yX3_isLearnt.desc).map (fun d => d.parameters.length) = some 1 := by decide +kernel
theorem ct_X3_isLearnt (l : Launch) (G : Gt) (KS : Ks l G) (x : Nat) (M : Mt) {c : Int} (hc : 0 ≤ c ∧ c < 400) (hf : 0 ≤ M 1 (525 + c) ∧ M 1 (525 + c) ≤ 3) : TI l G yX3_isLearnt cX3_isLearnt 2 (some FieldType.boolean) 1 x [vI c] M (fun v M' => (v = if M 1 (525 + c) = 1 ∨ M 1 (525 + c) = 3 then 1 else 0) ∧ M = M') := by
  intro h0 h hT
  refine ct_of KS (by decide) (Nat.le_of_ble_eq_true rfl) (fun X F E => ?_)
  refine j_lv (lv' := [(0, .ref x), (1, vI c)]) ⟨rfl, rfl, trivial⟩ ?_
  refine j_aload_n F rfl dX3_isLearnt_0 ?_
  refine t_get F hT 1 (by decide) rfl q1487 dX3_isLearnt_1 ?_
  refine j_sipush F (by decide) dX3_isLearnt_4 ?_
  refine j_iload_n F rfl dX3_isLearnt_7 ?_
  refine j_iadd F dX3_isLearnt_8 ?_
  refine t_iald F hT 1 tm_1 (by omega) dX3_isLearnt_9 ?_
  refine j_iconst F dX3_isLearnt_10 ?_
  refine j_iand F (if M 1 (525 + c) = 1 ∨ M 1 (525 + c) = 3 then 1 else 0) (and1 hf) dX3_isLearnt_11 ?_
  refine j_if_eq F 19 (by decide) (by split <;> omega) dX3_isLearnt_12 (fun c12 => ?_) (fun c12 => ?_)
  · skip
    refine j_iconst F dX3_isLearnt_19 ?_
    exact j_zret F E (by omega) (Nat.zero_le _) (Nat.zero_le _) dX3_isLearnt_20 (ti_post hT ⟨by split <;> split at c12 <;> omega, rfl⟩)
  · skip
    refine j_iconst F dX3_isLearnt_15 ?_
    refine j_goto F 20 (by decide) dX3_isLearnt_16 ?_
    exact j_zret F E (by omega) (Nat.zero_le _) (Nat.zero_le _) dX3_isLearnt_20 (ti_post hT ⟨by split <;> split at c12 <;> omega, rfl⟩)

theorem pd_X3_grows : yX3_grows.cls = RX3 ∧ yX3_grows.cls ≠ "java/lang/invoke/MethodHandle" ∧ yX3_grows.cls ≠ "java/lang/invoke/VarHandle" ∧ (parseMethodDescriptor yX3_grows.desc).map (fun d => d.parameters.length) = some 1 := by decide +kernel
theorem ct_X3_grows (l : Launch) (G : Gt) (KS : Ks l G) (x : Nat) (M : Mt) {a : Int} (ha : rg a) (hV : 0 ≤ M 1 0 ∧ M 1 0 ≤ 30) : TI l G yX3_grows cX3_grows 2 (some FieldType.int) 1 x [vI a] M (fun v M' => (a < 1 ∨ 30 - M 1 0 < a → v = -1 ∧ M' = M) ∧ (¬ (a < 1 ∨ 30 - M 1 0 < a) → v = M 1 0 + a ∧ M' = oM M 1 0 (M 1 0 + a))) := by
  intro h0 h hT
  refine ct_of KS (by decide) (Nat.le_of_ble_eq_true rfl) (fun X F E => ?_)
  refine j_lv (lv' := [(0, .ref x), (1, vI a)]) ⟨rfl, rfl, trivial⟩ ?_
  unfold rg at ha
  refine j_iload_n F rfl dX3_grows_0 ?_
  refine j_iconst F dX3_grows_1 ?_
  refine j_icmp_lt F 18 (by decide) (by omega) (by omega) dX3_grows_2 (fun c2 => ?_) (fun c2 => ?_)
  · skip
    refine j_iconst F dX3_grows_18 ?_
    exact j_iret F E (Nat.zero_le _) (Nat.zero_le _) dX3_grows_19 (ti_post hT ⟨fun _ => ⟨rfl, rfl⟩, fun q => absurd (by omega) q⟩)
  · skip
    refine j_iload_n F rfl dX3_grows_5 ?_
    refine j_bipush F (by decide) dX3_grows_6 ?_
    refine j_aload_n F rfl dX3_grows_8 ?_
    refine t_get F hT 1 (by decide) rfl q1487 dX3_grows_9 ?_
    refine j_iconst F dX3_grows_12 ?_
    refine t_iald F hT 1 tm_1 (by omega) dX3_grows_13 ?_
    refine j_isub F dX3_grows_14 ?_
    refine j_icmp_le F 20 (by decide) (by omega) (by omega) dX3_grows_15 (fun c15 => ?_) (fun c15 => ?_)
    · skip
      refine j_aload_n F rfl dX3_grows_20 ?_
      refine t_get F hT 1 (by decide) rfl q1487 dX3_grows_21 ?_
      refine j_iconst F dX3_grows_24 ?_
      refine j_dup2 F rfl rfl dX3_grows_25 ?_
      refine t_iald F hT 1 tm_1 (by omega) dX3_grows_26 ?_
      refine j_iload_n F rfl dX3_grows_27 ?_
      refine j_iadd F dX3_grows_28 ?_
      refine t_iast F hT 1 tm_1 rfl (by omega) dX3_grows_29 (fun h hT => ?_)
      refine j_aload_n F rfl dX3_grows_30 ?_
      refine t_get F hT 1 (by decide) rfl q1487 dX3_grows_31 ?_
      refine j_iconst F dX3_grows_34 ?_
      refine t_iald F hT 1 tm_1 (by omega) dX3_grows_35 ?_
      exact j_iret F E (Nat.zero_le _) (Nat.zero_le _) dX3_grows_36 (ti_post hT ⟨fun q => absurd q (by omega), fun _ => ⟨rfl, rfl⟩⟩)
    · skip
      refine j_iconst F dX3_grows_18 ?_
      exact j_iret F E (Nat.zero_le _) (Nat.zero_le _) dX3_grows_19 (ti_post hT ⟨fun _ => ⟨rfl, rfl⟩, fun q => absurd (by omega) q⟩)

theorem pd_X3_grow : yX3_grow.cls = RX3 ∧ yX3_grow.cls ≠ "java/lang/invoke/MethodHandle" ∧ yX3_grow.cls ≠ "java/lang/invoke/VarHandle" ∧ (parseMethodDescriptor yX3_grow.desc).map (fun d => d.parameters.length) = some 1 := by decide +kernel
theorem ct_X3_grow (l : Launch) (G : Gt) (KS : Ks l G) (x : Nat) (M : Mt) {a : Int} (ha : rg a) (hV : 0 ≤ M 1 0 ∧ M 1 0 ≤ 30) : TI l G yX3_grow cX3_grow 2 (some FieldType.int) 2 x [vI a] M (fun v M' => tsm M M' ∧ (a < 1 ∨ 30 - M 1 0 < a → v = -1 ∧ M' 1 = M 1) ∧ (¬ (a < 1 ∨ 30 - M 1 0 < a) → v = M 1 0 + a ∧ M' 1 = oI (M 1) 0 (M 1 0 + a))) := by
  intro h0 h hT
  refine ct_of KS (by decide) (Nat.le_of_ble_eq_true rfl) (fun X F E => ?_)
  refine j_lv (lv' := [(0, .ref x), (1, vI a)]) ⟨rfl, rfl, trivial⟩ ?_
  refine j_aload_n F rfl dX3_grow_0 ?_
  refine j_iconst F dX3_grow_1 ?_
  refine t_put F hT 0 (by decide) rfl rfl rfl (by decide) q1486 dX3_grow_2 (fun h hT => ?_)
  refine j_aload_n F rfl dX3_grow_5 ?_
  refine j_iload_n F rfl dX3_grow_6 ?_
  refine t_callI F hT (ct_X3_grows l G KS x _ ha hV) (by decide) (by decide) (lw_V q1579 q1581 qs50 q110 q1582) pd_X3_grows rfl (Nat.le_of_ble_eq_true rfl) (Nat.le_refl _) (Nat.le_refl _) dX3_grow_7 (fun v7 M7 h hv7 hT => ?_)
  have p10 : tsm M M7 ∧ (a < 1 ∨ 30 - M 1 0 < a → v7 = -1 ∧ M7 1 = M 1) ∧ (¬ (a < 1 ∨ 30 - M 1 0 < a) → v7 = M 1 0 + a ∧ M7 1 = oI (M 1) 0 (M 1 0 + a)) := by
    by_cases q : a < 1 ∨ 30 - M 1 0 < a
    · obtain ⟨e1, e2⟩ := hv7.1 q
      subst e2
      exact ⟨⟨rfl, rfl, rfl, rfl, rfl, rfl⟩, fun _ => ⟨e1, rfl⟩, fun z => absurd q z⟩
    · obtain ⟨e1, e2⟩ := hv7.2 q
      subst e2
      exact ⟨⟨rfl, rfl, rfl, rfl, rfl, rfl⟩, fun z => absurd z q, fun _ => ⟨e1, rfl⟩⟩
  exact j_iret F E (Nat.zero_le _) (Nat.zero_le _) dX3_grow_10 (ti_post hT p10)

theorem pd_X3_isRoom : yX3_isRoom.cls = RX3 ∧ yX3_isRoom.cls ≠ "java/lang/invoke/MethodHandle" ∧ yX3_isRoom.cls ≠ "java/lang/invoke/VarHandle" ∧ (parseMethodDescriptor yX3_isRoom.desc).map (fun d => d.parameters.length) = some 0 := by decide +kernel
theorem ct_X3_isRoom (l : Launch) (G : Gt) (KS : Ks l G) (x : Nat) (M : Mt) (hr : rg (M 1 2) ∧ rg (M 1 1)) : TI l G yX3_isRoom cX3_isRoom 1 (some FieldType.boolean) 1 x [] M (fun v M' => (v = if M 1 2 < 80 ∧ M 1 1 < 400 then 1 else 0) ∧ M = M') := by
  intro h0 h hT
  refine ct_of KS (by decide) (Nat.le_of_ble_eq_true rfl) (fun X F E => ?_)
  refine j_lv (lv' := [(0, .ref x)]) ⟨rfl, trivial⟩ ?_
  unfold rg at hr
  refine j_aload_n F rfl dX3_isRoom_0 ?_
  refine t_get F hT 1 (by decide) rfl q1487 dX3_isRoom_1 ?_
  refine j_iconst F dX3_isRoom_4 ?_
  refine t_iald F hT 1 tm_1 (by omega) dX3_isRoom_5 ?_
  refine j_bipush F (by decide) dX3_isRoom_6 ?_
  refine j_icmp_ge F 27 (by decide) (by omega) (by omega) dX3_isRoom_8 (fun c8 => ?_) (fun c8 => ?_)
  · skip
    refine j_iconst F dX3_isRoom_27 ?_
    exact j_zret F E (by omega) (Nat.zero_le _) (Nat.zero_le _) dX3_isRoom_28 (ti_post hT ⟨by split <;> omega, rfl⟩)
  · skip
    refine j_aload_n F rfl dX3_isRoom_11 ?_
    refine t_get F hT 1 (by decide) rfl q1487 dX3_isRoom_12 ?_
    refine j_iconst F dX3_isRoom_15 ?_
    refine t_iald F hT 1 tm_1 (by omega) dX3_isRoom_16 ?_
    refine j_sipush F (by decide) dX3_isRoom_17 ?_
    refine j_icmp_ge F 27 (by decide) (by omega) (by omega) dX3_isRoom_20 (fun c20 => ?_) (fun c20 => ?_)
    · skip
      refine j_iconst F dX3_isRoom_27 ?_
      exact j_zret F E (by omega) (Nat.zero_le _) (Nat.zero_le _) dX3_isRoom_28 (ti_post hT ⟨by split <;> omega, rfl⟩)
    · skip
      refine j_iconst F dX3_isRoom_23 ?_
      refine j_goto F 28 (by decide) dX3_isRoom_24 ?_
      exact j_zret F E (by omega) (Nat.zero_le _) (Nat.zero_le _) dX3_isRoom_28 (ti_post hT ⟨by split <;> omega, rfl⟩)
