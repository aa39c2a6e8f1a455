/-! ranges of the reference's working numbers: they hold all through its life -/
def b01 (f : Int → Int) : Prop := ∀ v : Int, 0 ≤ v → v ≤ 30 → f v = 0 ∨ f v = 1
def TR (M : Mt) : Prop := (0 ≤ M 10 0 ∧ M 10 0 ≤ 30) ∧ (0 ≤ M 11 0 ∧ M 11 0 ≤ 30) ∧ s3 (M 5) ∧ (∀ v : Int, 0 ≤ v → v ≤ 30 → 0 ≤ M 6 v ∧ M 6 v ≤ 30) ∧ (∀ v : Int, 0 ≤ v → v ≤ 30 → -1 ≤ M 7 v ∧ M 7 v < 400) ∧ (∀ v : Int, 0 ≤ v → v ≤ 30 → 0 ≤ M 8 v ∧ M 8 v ≤ 30) ∧ (∀ p : Int, 0 ≤ p → p < 30 → -30 ≤ M 9 p ∧ M 9 p ≤ 30) ∧ b01 (M 12) ∧ b01 (M 13) ∧ b01 (M 14)
theorem TR.trd {M : Mt} (h : TR M) : 0 ≤ M 10 0 ∧ M 10 0 ≤ 30 := h.1
theorem TR.lvl {M : Mt} (h : TR M) : 0 ≤ M 11 0 ∧ M 11 0 ≤ 30 := h.2.1
theorem TR.s {M : Mt} (h : TR M) : s3 (M 5) := h.2.2.1
theorem TR.lev {M : Mt} (h : TR M) {v : Int} (h0 : 0 ≤ v) (h1 : v ≤ 30) : 0 ≤ M 6 v ∧ M 6 v ≤ 30 := h.2.2.2.1 v h0 h1
theorem TR.rea {M : Mt} (h : TR M) {v : Int} (h0 : 0 ≤ v) (h1 : v ≤ 30) : -1 ≤ M 7 v ∧ M 7 v < 400 := h.2.2.2.2.1 v h0 h1
theorem TR.pla {M : Mt} (h : TR M) {v : Int} (h0 : 0 ≤ v) (h1 : v ≤ 30) : 0 ≤ M 8 v ∧ M 8 v ≤ 30 := h.2.2.2.2.2.1 v h0 h1
theorem TR.tra {M : Mt} (h : TR M) {p : Int} (h0 : 0 ≤ p) (h1 : p < 30) : -30 ≤ M 9 p ∧ M 9 p ≤ 30 := h.2.2.2.2.2.2.1 p h0 h1
theorem TR.t12 {M : Mt} (h : TR M) {v : Int} (h0 : 0 ≤ v) (h1 : v ≤ 30) : M 12 v = 0 ∨ M 12 v = 1 := h.2.2.2.2.2.2.2.1 v h0 h1
theorem TR.t13 {M : Mt} (h : TR M) {v : Int} (h0 : 0 ≤ v) (h1 : v ≤ 30) : M 13 v = 0 ∨ M 13 v = 1 := h.2.2.2.2.2.2.2.2.1 v h0 h1
theorem TR.t14 {M : Mt} (h : TR M) {v : Int} (h0 : 0 ≤ v) (h1 : v ≤ 30) : M 14 v = 0 ∨ M 14 v = 1 := h.2.2.2.2.2.2.2.2.2 v h0 h1
/-- how many of the first n variables are there at the level -/
def lnF (M : Mt) : Nat → Int
  | 0 => 0
  | n + 1 => lnF M n + (if M 12 ((n : Int) + 1) = 1 ∧ M 6 ((n : Int) + 1) = M 11 0 then 1 else 0)
theorem lnF_rg (M : Mt) : ∀ n : Nat, 0 ≤ lnF M n ∧ lnF M n ≤ n
  | 0 => by simp [lnF]
  | n + 1 => by
    have := lnF_rg M n
    unfold lnF
    split <;> omega
/-- the latest of them -/
def laF (M : Mt) : Nat → Int
  | 0 => 0
  | n + 1 => if M 12 ((n : Int) + 1) = 1 ∧ M 6 ((n : Int) + 1) = M 11 0 ∧ (laF M n = 0 ∨ M 8 (laF M n) < M 8 ((n : Int) + 1)) then (n : Int) + 1 else laF M n
theorem laF_rg (M : Mt) : ∀ n : Nat, 0 ≤ laF M n ∧ laF M n ≤ n
  | 0 => by simp [laF]
  | n + 1 => by
    have := laF_rg M n
    unfold laF
    split <;> omega
/-- the open variable of the best score -/
def beF (R s : Int → Int) : Nat → Int
  | 0 => 0
  | n + 1 => if s ((n : Int) + 1) = 0 ∧ (beF R s n = 0 ∨ R (63 + beF R s n) < R (63 + ((n : Int) + 1))) then (n : Int) + 1 else beF R s n
theorem beF_rg (R s : Int → Int) : ∀ n : Nat, 0 ≤ beF R s n ∧ beF R s n ≤ n
  | 0 => by simp [beF]
  | n + 1 => by
    have := beF_rg R s n
    unfold beF
    split <;> omega
theorem nat1 {i : Int} (h : 1 ≤ i) : ∃ n : Nat, i = (n : Int) + 1 ∧ (i - 1).toNat = n ∧ (i + 1 - 1).toNat = n + 1 := ⟨(i - 1).toNat, by omega, rfl, by omega⟩
/-- a clause's variables but one, above level 0, come: the first n literals of it -/
def brF (M : Mt) (c b : Int) : Nat → (Int → Int) → Int → Int
  | 0, f => f
  | n + 1, f => if iab (lit (M 1) c n) = b ∨ M 6 (iab (lit (M 1) c n)) = 0 then brF M c b n f else oI (brF M c b n f) (iab (lit (M 1) c n)) 1
def brM (M : Mt) (c b : Int) : Mt := sM (sM M 12 (brF M c b (siz (M 1) c).toNat (M 12))) 13 (brF M c b (siz (M 1) c).toNat (M 13))
theorem brF_01 {M : Mt} {c b : Int} {f : Int → Int} (hf : b01 f) : ∀ n : Nat, b01 (brF M c b n f)
  | 0 => hf
  | n + 1 => by
    have := brF_01 (M := M) (c := c) (b := b) hf n
    unfold brF
    split
    · exact this
    · intro v v0 v1
      unfold oI
      split
      · exact Or.inr rfl
      · exact this v v0 v1
/-- a variable that is dropped: all its reason's others were left, or are of level 0 -/
def drp (M : Mt) (v : Int) : Prop := ¬ (M 6 v = M 11 0 ∨ M 7 v = -1) ∧ ∀ k : Int, 0 ≤ k → k < siz (M 1) (M 7 v) → ¬ (iab (lit (M 1) (M 7 v) k) ≠ v ∧ 0 < M 6 (iab (lit (M 1) (M 7 v) k)) ∧ M 14 (iab (lit (M 1) (M 7 v) k)) = 0)
theorem pd_X3_levelNow : yX3_levelNow.cls = RX3 ∧ yX3_levelNow.cls ≠ "java/lang/invoke/MethodHandle" ∧ yX3_levelNow.cls ≠ "java/lang/invoke/VarHandle" ∧ (parseMethodDescriptor yX3_levelNow.desc).map (fun d => d.parameters.length) = some 0 := by decide +kernel
theorem ct_X3_levelNow (l : Launch) (G : Gt) (KS : Ks l G) (x : Nat) (M : Mt) (hR : RI (M 1)) (hTR : TR M) : TI l G yX3_levelNow cX3_levelNow 3 (some FieldType.int) 1 x [] M (fun v M' => v = lnF M (M 1 0).toNat ∧ M = M') := by
  intro h0 h hT
  refine ct_of KS (by decide) (Nat.le_of_ble_eq_true rfl) (fun X F E => ?_)
  refine j_lv (lv' := [(0, .ref x)]) ⟨rfl, trivial⟩ ?_
  have hV := hR.V
  have hl := hTR.lvl
  refine j_iconst F dX3_levelNow_0 ?_
  refine j_istore_n F (by decide) dX3_levelNow_1 ?_
  refine j_iconst F dX3_levelNow_2 ?_
  refine j_istore_n F (by decide) dX3_levelNow_3 ?_
  have L4 : ∀ (m4 : Nat) (i nn : Int) (h : Hp), (1 ≤ i ∧ i ≤ M 1 0 + 1 ∧ nn = lnF M (i - 1).toNat) → (M 1 0 + 1 - i).toNat < m4 → Tw G x M h0 h → J X h 4 [(0, .ref x), (1, vI nn), (2, vI i)] [] 0 0 := by
    intro m4
    induction m4 with
    | zero => intro i nn h hI hm4 hT; exact absurd hm4 (Nat.not_lt_zero _)
    | succ m4 ih4 =>
      intro i nn h hI hm4 hT
      obtain ⟨hI1, hI2, hI3⟩ := hI
      obtain ⟨n1, e1, e2, e3⟩ := nat1 hI1
      have hnr := lnF_rg M n1
      rw [e2] at hI3
      refine j_iload_n F rfl dX3_levelNow_4 ?_
      refine j_aload_n F rfl dX3_levelNow_5 ?_
      refine t_get F hT 1 (by decide) rfl q1487 dX3_levelNow_6 ?_
      refine j_iconst F dX3_levelNow_9 ?_
      refine t_iald F hT 1 tm_1 (by omega) dX3_levelNow_10 ?_
      refine j_icmp_gt F 50 (by decide) (by omega) (by omega) dX3_levelNow_11 (fun c11 => ?_) (fun c11 => ?_)
      · skip
        refine j_iload_n F rfl dX3_levelNow_50 ?_
        exact j_iret F E (Nat.zero_le _) (Nat.zero_le _) dX3_levelNow_51 (ti_post hT ⟨by rw [hI3, show M 1 0 = i - 1 by omega, e2], rfl⟩)
      · skip
        have h12 := hTR.t12 (v := i) (by omega) (by omega)
        have h6 := hTR.lev (v := i) (by omega) (by omega)
        refine j_iload_n F rfl dX3_levelNow_14 ?_
        refine j_joinT (x := x) (M := M) (G := G) (h0 := h0) 42 (fun w => nn + w = lnF M (i + 1 - 1).toNat) (fun w h hw hT => ?_) (fun Kj15 => ?_)
        · skip
          refine j_iadd F dX3_levelNow_42 ?_
          refine j_istore_n F (by decide) dX3_levelNow_43 ?_
          refine j_iinc F rfl (by decide) dX3_levelNow_44 ?_
          refine j_goto F 4 (by decide) dX3_levelNow_47 ?_
          refine j_lv (lv' := [(0, .ref x), (1, vI (nn + w)), (2, vI (i + 1))]) ⟨rfl, rfl, rfl, trivial⟩ ?_
          exact ih4 (i + 1) (nn + w) _ ⟨by omega, by omega, hw⟩ (by omega) hT
        · skip
          refine j_aload_n F rfl dX3_levelNow_15 ?_
          refine t_get F hT 12 (by decide) rfl q1498 dX3_levelNow_16 ?_
          refine j_iload_n F rfl dX3_levelNow_19 ?_
          refine t_zald F hT 12 tm_12 (by omega) dX3_levelNow_20 ?_
          refine j_if_eq F 41 (by decide) (by omega) dX3_levelNow_21 (fun c21 => ?_) (fun c21 => ?_)
          · skip
            refine j_iconst F dX3_levelNow_41 ?_
            exact Kj15 _ _ (by rw [e3, lnF, ← e1, hI3]; split <;> omega) hT
          · skip
            refine j_aload_n F rfl dX3_levelNow_24 ?_
            refine t_get F hT 6 (by decide) rfl q1492 dX3_levelNow_25 ?_
            refine j_iload_n F rfl dX3_levelNow_28 ?_
            refine t_iald F hT 6 tm_6 (by omega) dX3_levelNow_29 ?_
            refine j_aload_n F rfl dX3_levelNow_30 ?_
            refine t_get F hT 11 (by decide) rfl q1497 dX3_levelNow_31 ?_
            refine j_icmp_ne F 41 (by decide) (by omega) (by omega) dX3_levelNow_34 (fun c34 => ?_) (fun c34 => ?_)
            · skip
              refine j_iconst F dX3_levelNow_41 ?_
              exact Kj15 _ _ (by rw [e3, lnF, ← e1, hI3]; split <;> omega) hT
            · skip
              refine j_iconst F dX3_levelNow_37 ?_
              refine j_goto F 42 (by decide) dX3_levelNow_38 ?_
              exact Kj15 _ _ (by rw [e3, lnF, ← e1, hI3]; split <;> omega) hT
  refine j_lv (lv' := [(0, .ref x), (1, vI 0), (2, vI 1)]) ⟨rfl, rfl, rfl, trivial⟩ ?_
  exact L4 _ 1 0 _ ⟨by omega, by omega, rfl⟩ (Nat.lt_succ_self _) hT

theorem pd_X3_latest : yX3_latest.cls = RX3 ∧ yX3_latest.cls ≠ "java/lang/invoke/MethodHandle" ∧ yX3_latest.cls ≠ "java/lang/invoke/VarHandle" ∧ (parseMethodDescriptor yX3_latest.desc).map (fun d => d.parameters.length) = some 0 := by decide +kernel
theorem ct_X3_latest (l : Launch) (G : Gt) (KS : Ks l G) (x : Nat) (M : Mt) (hR : RI (M 1)) (hTR : TR M) : TI l G yX3_latest cX3_latest 3 (some FieldType.int) 1 x [] M (fun v M' => v = laF M (M 1 0).toNat ∧ M = M') := by
  intro h0 h hT
  refine ct_of KS (by decide) (Nat.le_of_ble_eq_true rfl) (fun X F E => ?_)
  refine j_lv (lv' := [(0, .ref x)]) ⟨rfl, trivial⟩ ?_
  have hV := hR.V
  have hl := hTR.lvl
  refine j_iconst F dX3_latest_0 ?_
  refine j_istore_n F (by decide) dX3_latest_1 ?_
  refine j_iconst F dX3_latest_2 ?_
  refine j_istore_n F (by decide) dX3_latest_3 ?_
  have L4 : ∀ (m4 : Nat) (i b : Int) (h : Hp), (1 ≤ i ∧ i ≤ M 1 0 + 1 ∧ b = laF M (i - 1).toNat) → (M 1 0 + 1 - i).toNat < m4 → Tw G x M h0 h → J X h 4 [(0, .ref x), (1, vI b), (2, vI i)] [] 0 0 := by
    intro m4
    induction m4 with
    | zero => intro i b h hI hm4 hT; exact absurd hm4 (Nat.not_lt_zero _)
    | succ m4 ih4 =>
      intro i b h hI hm4 hT
      obtain ⟨hI1, hI2, hI3⟩ := hI
      obtain ⟨n1, e1, e2, e3⟩ := nat1 hI1
      have hnr := laF_rg M n1
      rw [e2] at hI3
      rw [← hI3] at hnr
      refine j_iload_n F rfl dX3_latest_4 ?_
      refine j_aload_n F rfl dX3_latest_5 ?_
      refine t_get F hT 1 (by decide) rfl q1487 dX3_latest_6 ?_
      refine j_iconst F dX3_latest_9 ?_
      refine t_iald F hT 1 tm_1 (by omega) dX3_latest_10 ?_
      refine j_icmp_gt F 63 (by decide) (by omega) (by omega) dX3_latest_11 (fun c11 => ?_) (fun c11 => ?_)
      · skip
        refine j_iload_n F rfl dX3_latest_63 ?_
        exact j_iret F E (Nat.zero_le _) (Nat.zero_le _) dX3_latest_64 (ti_post hT ⟨by rw [hI3, show M 1 0 = i - 1 by omega, e2], rfl⟩)
      · skip
        have h12 := hTR.t12 (v := i) (by omega) (by omega)
        have h6 := hTR.lev (v := i) (by omega) (by omega)
        have h8 := hTR.pla (v := i) (by omega) (by omega)
        have h9 := hTR.pla (v := b) (by omega) (by omega)
        refine j_aload_n F rfl dX3_latest_14 ?_
        refine t_get F hT 12 (by decide) rfl q1498 dX3_latest_15 ?_
        refine j_iload_n F rfl dX3_latest_18 ?_
        refine t_zald F hT 12 tm_12 (by omega) dX3_latest_19 ?_
        refine j_if_eq F 57 (by decide) (by omega) dX3_latest_20 (fun c20 => ?_) (fun c20 => ?_)
        · skip
          refine j_iinc F rfl (by decide) dX3_latest_57 ?_
          refine j_goto F 4 (by decide) dX3_latest_60 ?_
          refine j_lv (lv' := [(0, .ref x), (1, vI b), (2, vI (i + 1))]) ⟨rfl, rfl, rfl, trivial⟩ ?_
          exact ih4 (i + 1) b _ ⟨by omega, by omega, by rw [e3, laF, ← e1, ← hI3, if_neg (by omega)]⟩ (by omega) hT
        · skip
          refine j_aload_n F rfl dX3_latest_23 ?_
          refine t_get F hT 6 (by decide) rfl q1492 dX3_latest_24 ?_
          refine j_iload_n F rfl dX3_latest_27 ?_
          refine t_iald F hT 6 tm_6 (by omega) dX3_latest_28 ?_
          refine j_aload_n F rfl dX3_latest_29 ?_
          refine t_get F hT 11 (by decide) rfl q1497 dX3_latest_30 ?_
          refine j_icmp_ne F 57 (by decide) (by omega) (by omega) dX3_latest_33 (fun c33 => ?_) (fun c33 => ?_)
          · skip
            refine j_iinc F rfl (by decide) dX3_latest_57 ?_
            refine j_goto F 4 (by decide) dX3_latest_60 ?_
            refine j_lv (lv' := [(0, .ref x), (1, vI b), (2, vI (i + 1))]) ⟨rfl, rfl, rfl, trivial⟩ ?_
            exact ih4 (i + 1) b _ ⟨by omega, by omega, by rw [e3, laF, ← e1, ← hI3, if_neg (by omega)]⟩ (by omega) hT
          · skip
            refine j_iload_n F rfl dX3_latest_36 ?_
            refine j_if_eq F 55 (by decide) (by omega) dX3_latest_37 (fun c37 => ?_) (fun c37 => ?_)
            · skip
              refine j_iload_n F rfl dX3_latest_55 ?_
              refine j_istore_n F (by decide) dX3_latest_56 ?_
              refine j_iinc F rfl (by decide) dX3_latest_57 ?_
              refine j_goto F 4 (by decide) dX3_latest_60 ?_
              refine j_lv (lv' := [(0, .ref x), (1, vI i), (2, vI (i + 1))]) ⟨rfl, rfl, rfl, trivial⟩ ?_
              exact ih4 (i + 1) i _ ⟨by omega, by omega, by rw [e3, laF, ← e1, ← hI3, if_pos (by omega)]⟩ (by omega) hT
            · skip
              refine j_aload_n F rfl dX3_latest_40 ?_
              refine t_get F hT 8 (by decide) rfl q1494 dX3_latest_41 ?_
              refine j_iload_n F rfl dX3_latest_44 ?_
              refine t_iald F hT 8 tm_8 (by omega) dX3_latest_45 ?_
              refine j_aload_n F rfl dX3_latest_46 ?_
              refine t_get F hT 8 (by decide) rfl q1494 dX3_latest_47 ?_
              refine j_iload_n F rfl dX3_latest_50 ?_
              refine t_iald F hT 8 tm_8 (by omega) dX3_latest_51 ?_
              refine j_icmp_le F 57 (by decide) (by omega) (by omega) dX3_latest_52 (fun c52 => ?_) (fun c52 => ?_)
              · skip
                refine j_iinc F rfl (by decide) dX3_latest_57 ?_
                refine j_goto F 4 (by decide) dX3_latest_60 ?_
                refine j_lv (lv' := [(0, .ref x), (1, vI b), (2, vI (i + 1))]) ⟨rfl, rfl, rfl, trivial⟩ ?_
                exact ih4 (i + 1) b _ ⟨by omega, by omega, by rw [e3, laF, ← e1, ← hI3, if_neg (by omega)]⟩ (by omega) hT
              · skip
                refine j_iload_n F rfl dX3_latest_55 ?_
                refine j_istore_n F (by decide) dX3_latest_56 ?_
                refine j_iinc F rfl (by decide) dX3_latest_57 ?_
                refine j_goto F 4 (by decide) dX3_latest_60 ?_
                refine j_lv (lv' := [(0, .ref x), (1, vI i), (2, vI (i + 1))]) ⟨rfl, rfl, rfl, trivial⟩ ?_
                exact ih4 (i + 1) i _ ⟨by omega, by omega, by rw [e3, laF, ← e1, ← hI3, if_pos (by omega)]⟩ (by omega) hT
  refine j_lv (lv' := [(0, .ref x), (1, vI 0), (2, vI 1)]) ⟨rfl, rfl, rfl, trivial⟩ ?_
  exact L4 _ 1 0 _ ⟨by omega, by omega, rfl⟩ (Nat.lt_succ_self _) hT

theorem pd_X3_choice : yX3_choice.cls = RX3 ∧ yX3_choice.cls ≠ "java/lang/invoke/MethodHandle" ∧ yX3_choice.cls ≠ "java/lang/invoke/VarHandle" ∧ (parseMethodDescriptor yX3_choice.desc).map (fun d => d.parameters.length) = some 0 := by decide +kernel
theorem ct_X3_choice (l : Launch) (G : Gt) (KS : Ks l G) (x : Nat) (M : Mt) (hR : RI (M 1)) (hTR : TR M) : TI l G yX3_choice cX3_choice 3 (some FieldType.int) 1 x [] M (fun v M' => v = beF (M 1) (M 5) (M 1 0).toNat ∧ M = M') := by
  intro h0 h hT
  refine ct_of KS (by decide) (Nat.le_of_ble_eq_true rfl) (fun X F E => ?_)
  refine j_lv (lv' := [(0, .ref x)]) ⟨rfl, trivial⟩ ?_
  have hV := hR.V
  refine j_iconst F dX3_choice_0 ?_
  refine j_istore_n F (by decide) dX3_choice_1 ?_
  refine j_iconst F dX3_choice_2 ?_
  refine j_istore_n F (by decide) dX3_choice_3 ?_
  have L4 : ∀ (m4 : Nat) (i b : Int) (h : Hp), (1 ≤ i ∧ i ≤ M 1 0 + 1 ∧ b = beF (M 1) (M 5) (i - 1).toNat) → (M 1 0 + 1 - i).toNat < m4 → Tw G x M h0 h → J X h 4 [(0, .ref x), (1, vI b), (2, vI i)] [] 0 0 := by
    intro m4
    induction m4 with
    | zero => intro i b h hI hm4 hT; exact absurd hm4 (Nat.not_lt_zero _)
    | succ m4 ih4 =>
      intro i b h hI hm4 hT
      obtain ⟨hI1, hI2, hI3⟩ := hI
      obtain ⟨n1, e1, e2, e3⟩ := nat1 hI1
      have hnr := beF_rg (M 1) (M 5) n1
      rw [e2] at hI3
      rw [← hI3] at hnr
      refine j_iload_n F rfl dX3_choice_4 ?_
      refine j_aload_n F rfl dX3_choice_5 ?_
      refine t_get F hT 1 (by decide) rfl q1487 dX3_choice_6 ?_
      refine j_iconst F dX3_choice_9 ?_
      refine t_iald F hT 1 tm_1 (by omega) dX3_choice_10 ?_
      refine j_icmp_gt F 56 (by decide) (by omega) (by omega) dX3_choice_11 (fun c11 => ?_) (fun c11 => ?_)
      · skip
        refine j_iload_n F rfl dX3_choice_56 ?_
        exact j_iret F E (Nat.zero_le _) (Nat.zero_le _) dX3_choice_57 (ti_post hT ⟨by rw [hI3, show M 1 0 = i - 1 by omega, e2], rfl⟩)
      · skip
        have h5 := hTR.s i (by omega) (by omega)
        have h8 := hR.sc (v := i) (by omega) (by omega)
        have h9 := hR.sc (v := b) (by omega) (by omega)
        refine j_aload_n F rfl dX3_choice_14 ?_
        refine t_get F hT 5 (by decide) rfl q1491 dX3_choice_15 ?_
        refine j_iload_n F rfl dX3_choice_18 ?_
        refine t_iald F hT 5 tm_5 (by omega) dX3_choice_19 ?_
        refine j_if_ne F 50 (by decide) (by omega) dX3_choice_20 (fun c20 => ?_) (fun c20 => ?_)
        · skip
          refine j_iinc F rfl (by decide) dX3_choice_50 ?_
          refine j_goto F 4 (by decide) dX3_choice_53 ?_
          refine j_lv (lv' := [(0, .ref x), (1, vI b), (2, vI (i + 1))]) ⟨rfl, rfl, rfl, trivial⟩ ?_
          exact ih4 (i + 1) b _ ⟨by omega, by omega, by rw [e3, beF, ← e1, ← hI3, if_neg (by omega)]⟩ (by omega) hT
        · skip
          refine j_iload_n F rfl dX3_choice_23 ?_
          refine j_if_eq F 48 (by decide) (by omega) dX3_choice_24 (fun c24 => ?_) (fun c24 => ?_)
          · skip
            refine j_iload_n F rfl dX3_choice_48 ?_
            refine j_istore_n F (by decide) dX3_choice_49 ?_
            refine j_iinc F rfl (by decide) dX3_choice_50 ?_
            refine j_goto F 4 (by decide) dX3_choice_53 ?_
            refine j_lv (lv' := [(0, .ref x), (1, vI i), (2, vI (i + 1))]) ⟨rfl, rfl, rfl, trivial⟩ ?_
            exact ih4 (i + 1) i _ ⟨by omega, by omega, by rw [e3, beF, ← e1, ← hI3, if_pos (by omega)]⟩ (by omega) hT
          · skip
            refine j_aload_n F rfl dX3_choice_27 ?_
            refine t_get F hT 1 (by decide) rfl q1487 dX3_choice_28 ?_
            refine j_bipush F (by decide) dX3_choice_31 ?_
            refine j_iload_n F rfl dX3_choice_33 ?_
            refine j_iadd F dX3_choice_34 ?_
            refine t_iald F hT 1 tm_1 (by omega) dX3_choice_35 ?_
            refine j_aload_n F rfl dX3_choice_36 ?_
            refine t_get F hT 1 (by decide) rfl q1487 dX3_choice_37 ?_
            refine j_bipush F (by decide) dX3_choice_40 ?_
            refine j_iload_n F rfl dX3_choice_42 ?_
            refine j_iadd F dX3_choice_43 ?_
            refine t_iald F hT 1 tm_1 (by omega) dX3_choice_44 ?_
            refine j_icmp_le F 50 (by decide) (by omega) (by omega) dX3_choice_45 (fun c45 => ?_) (fun c45 => ?_)
            · skip
              refine j_iinc F rfl (by decide) dX3_choice_50 ?_
              refine j_goto F 4 (by decide) dX3_choice_53 ?_
              refine j_lv (lv' := [(0, .ref x), (1, vI b), (2, vI (i + 1))]) ⟨rfl, rfl, rfl, trivial⟩ ?_
              exact ih4 (i + 1) b _ ⟨by omega, by omega, by rw [e3, beF, ← e1, ← hI3, if_neg (by omega)]⟩ (by omega) hT
            · skip
              refine j_iload_n F rfl dX3_choice_48 ?_
              refine j_istore_n F (by decide) dX3_choice_49 ?_
              refine j_iinc F rfl (by decide) dX3_choice_50 ?_
              refine j_goto F 4 (by decide) dX3_choice_53 ?_
              refine j_lv (lv' := [(0, .ref x), (1, vI i), (2, vI (i + 1))]) ⟨rfl, rfl, rfl, trivial⟩ ?_
              exact ih4 (i + 1) i _ ⟨by omega, by omega, by rw [e3, beF, ← e1, ← hI3, if_pos (by omega)]⟩ (by omega) hT
  refine j_lv (lv' := [(0, .ref x), (1, vI 0), (2, vI 1)]) ⟨rfl, rfl, rfl, trivial⟩ ?_
  exact L4 _ 1 0 _ ⟨by omega, by omega, rfl⟩ (Nat.lt_succ_self _) hT

theorem pd_X3_assumptionOpen : yX3_assumptionOpen.cls = RX3 ∧ yX3_assumptionOpen.cls ≠ "java/lang/invoke/MethodHandle" ∧ yX3_assumptionOpen.cls ≠ "java/lang/invoke/VarHandle" ∧ (parseMethodDescriptor yX3_assumptionOpen.desc).map (fun d => d.parameters.length) = some 0 := by decide +kernel
theorem ct_X3_assumptionOpen (l : Launch) (G : Gt) (KS : Ks l G) (x : Nat) (M : Mt) (hR : RI (M 1)) (hTR : TR M) : TI l G yX3_assumptionOpen cX3_assumptionOpen 2 (some FieldType.int) 2 x [] M (fun v M' => v = lst (fun k => trv (M 5) (M 1 (16 + k)) ≤ 0) (M 1 3) ∧ M = M') := by
  intro h0 h hT
  refine ct_of KS (by decide) (Nat.le_of_ble_eq_true rfl) (fun X F E => ?_)
  refine j_lv (lv' := [(0, .ref x)]) ⟨rfl, trivial⟩ ?_
  have hV := hR.V
  have ha := hR.as
  refine j_iconst F dX3_assumptionOpen_0 ?_
  refine j_istore_n F (by decide) dX3_assumptionOpen_1 ?_
  have L2 : ∀ (m2 : Nat) (i : Int) (h : Hp), (0 ≤ i ∧ i ≤ M 1 3 ∧ ∀ k : Int, 0 ≤ k → k < i → ¬ trv (M 5) (M 1 (16 + k)) ≤ 0) → (M 1 3 - i).toNat < m2 → Tw G x M h0 h → J X h 2 [(0, .ref x), (1, vI i)] [] 0 0 := by
    intro m2
    induction m2 with
    | zero => intro i h hI hm2 hT; exact absurd hm2 (Nat.not_lt_zero _)
    | succ m2 ih2 =>
      intro i h hI hm2 hT
      obtain ⟨hI0, hI1, hI2⟩ := hI
      refine j_iload_n F rfl dX3_assumptionOpen_2 ?_
      refine j_aload_n F rfl dX3_assumptionOpen_3 ?_
      refine t_get F hT 1 (by decide) rfl q1487 dX3_assumptionOpen_4 ?_
      refine j_iconst F dX3_assumptionOpen_7 ?_
      refine t_iald F hT 1 tm_1 (by omega) dX3_assumptionOpen_8 ?_
      refine j_icmp_ge F 36 (by decide) (by omega) (by omega) dX3_assumptionOpen_9 (fun c9 => ?_) (fun c9 => ?_)
      · skip
        refine j_iconst F dX3_assumptionOpen_36 ?_
        exact j_iret F E (Nat.zero_le _) (Nat.zero_le _) dX3_assumptionOpen_37 (ti_post hT ⟨(lst_none (fun k k0 k1 => hI2 k k0 (by omega))).symm, rfl⟩)
      · skip
        have hl := hR.asl hI0 (by omega)
        unfold lok at hl
        refine j_aload_n F rfl dX3_assumptionOpen_12 ?_
        refine j_aload_n F rfl dX3_assumptionOpen_13 ?_
        refine t_get F hT 1 (by decide) rfl q1487 dX3_assumptionOpen_14 ?_
        refine j_bipush F (by decide) dX3_assumptionOpen_17 ?_
        refine j_iload_n F rfl dX3_assumptionOpen_19 ?_
        refine j_iadd F dX3_assumptionOpen_20 ?_
        refine t_iald F hT 1 tm_1 (by omega) dX3_assumptionOpen_21 ?_
        refine t_callI F hT (ct_X3_truth l G KS x M (a := M 1 (16 + i)) (by omega)) (by decide) (by decide) (lw_V q1689 q1691 qs66 q110 q1692) pd_X3_truth rfl (Nat.le_of_ble_eq_true rfl) (Nat.le_refl _) (Nat.le_refl _) dX3_assumptionOpen_22 (fun v22 M' h hv22 hT => ?_)
        obtain ⟨hv22, rfl⟩ := hv22
        subst hv22
        have htr := trv_rg hTR.s (l := M 1 (16 + i)) (by omega)
        refine j_if_gt F 30 (by decide) (by omega) dX3_assumptionOpen_25 (fun c25 => ?_) (fun c25 => ?_)
        · skip
          refine j_iinc F rfl (by decide) dX3_assumptionOpen_30 ?_
          refine j_goto F 2 (by decide) dX3_assumptionOpen_33 ?_
          refine j_lv (lv' := [(0, .ref x), (1, vI (i + 1))]) ⟨rfl, rfl, trivial⟩ ?_
          exact ih2 (i + 1) _ ⟨by omega, by omega, fun k c0 c1 => if e : k = i then (by rw [e]; omega) else hI2 k c0 (by omega)⟩ (by omega) hT
        · skip
          refine j_iload_n F rfl dX3_assumptionOpen_28 ?_
          exact j_iret F E (Nat.zero_le _) (Nat.zero_le _) dX3_assumptionOpen_29 (ti_post hT ⟨(lst_at hI0 (by omega) (by omega) hI2).symm, rfl⟩)
  refine j_lv (lv' := [(0, .ref x), (1, vI 0)]) ⟨rfl, rfl, trivial⟩ ?_
  exact L2 _ 0 _ ⟨by omega, by omega, fun c c0 c1 => by omega⟩ (Nat.lt_succ_self _) hT

theorem pd_X3_placeAssumed : yX3_placeAssumed.cls = RX3 ∧ yX3_placeAssumed.cls ≠ "java/lang/invoke/MethodHandle" ∧ yX3_placeAssumed.cls ≠ "java/lang/invoke/VarHandle" ∧ (parseMethodDescriptor yX3_placeAssumed.desc).map (fun d => d.parameters.length) = some 1 := by decide +kernel
theorem ct_X3_placeAssumed (l : Launch) (G : Gt) (KS : Ks l G) (x : Nat) (M : Mt) {a : Int} (ha0 : rg a) (hR : RI (M 1)) (hTR : TR M) : TI l G yX3_placeAssumed cX3_placeAssumed 3 (some FieldType.int) 2 x [vI a] M (fun v M' => v = lst (fun k => iab (M 1 (16 + k)) = a) (M 1 3) ∧ M = M') := by
  intro h0 h hT
  refine ct_of KS (by decide) (Nat.le_of_ble_eq_true rfl) (fun X F E => ?_)
  refine j_lv (lv' := [(0, .ref x), (1, vI a)]) ⟨rfl, rfl, trivial⟩ ?_
  have hV := hR.V
  have ha := hR.as
  unfold rg at ha0
  refine j_iconst F dX3_placeAssumed_0 ?_
  refine j_istore_n F (by decide) dX3_placeAssumed_1 ?_
  have L2 : ∀ (m2 : Nat) (i : Int) (h : Hp), (0 ≤ i ∧ i ≤ M 1 3 ∧ ∀ k : Int, 0 ≤ k → k < i → ¬ iab (M 1 (16 + k)) = a) → (M 1 3 - i).toNat < m2 → Tw G x M h0 h → J X h 2 [(0, .ref x), (1, vI a), (2, vI i)] [] 0 0 := by
    intro m2
    induction m2 with
    | zero => intro i h hI hm2 hT; exact absurd hm2 (Nat.not_lt_zero _)
    | succ m2 ih2 =>
      intro i h hI hm2 hT
      obtain ⟨hI0, hI1, hI2⟩ := hI
      refine j_iload_n F rfl dX3_placeAssumed_2 ?_
      refine j_aload_n F rfl dX3_placeAssumed_3 ?_
      refine t_get F hT 1 (by decide) rfl q1487 dX3_placeAssumed_4 ?_
      refine j_iconst F dX3_placeAssumed_7 ?_
      refine t_iald F hT 1 tm_1 (by omega) dX3_placeAssumed_8 ?_
      refine j_icmp_ge F 36 (by decide) (by omega) (by omega) dX3_placeAssumed_9 (fun c9 => ?_) (fun c9 => ?_)
      · skip
        refine j_iconst F dX3_placeAssumed_36 ?_
        exact j_iret F E (Nat.zero_le _) (Nat.zero_le _) dX3_placeAssumed_37 (ti_post hT ⟨(lst_none (fun k k0 k1 => hI2 k k0 (by omega))).symm, rfl⟩)
      · skip
        have hl := hR.asl hI0 (by omega)
        unfold lok at hl
        have hi := iab_rg (a := M 1 (16 + i)) (by omega)
        refine j_aload_n F rfl dX3_placeAssumed_12 ?_
        refine t_get F hT 1 (by decide) rfl q1487 dX3_placeAssumed_13 ?_
        refine j_bipush F (by decide) dX3_placeAssumed_16 ?_
        refine j_iload_n F rfl dX3_placeAssumed_18 ?_
        refine j_iadd F dX3_placeAssumed_19 ?_
        refine t_iald F hT 1 tm_1 (by omega) dX3_placeAssumed_20 ?_
        refine s_callI F (ct_X3_size l G KS (a := M 1 (16 + i)) (by unfold rg; omega)) (by decide) (by decide) (lw_S q1591 q1592 q110 q1593) pd_X3_size rfl (Nat.le_of_ble_eq_true rfl) (Nat.le_refl _) (Nat.le_refl _) dX3_placeAssumed_21 (fun v21 hv21 => ?_)
        subst hv21
        refine j_iload_n F rfl dX3_placeAssumed_24 ?_
        refine j_icmp_ne F 30 (by decide) (by omega) (by omega) dX3_placeAssumed_25 (fun c25 => ?_) (fun c25 => ?_)
        · skip
          refine j_iinc F rfl (by decide) dX3_placeAssumed_30 ?_
          refine j_goto F 2 (by decide) dX3_placeAssumed_33 ?_
          refine j_lv (lv' := [(0, .ref x), (1, vI a), (2, vI (i + 1))]) ⟨rfl, rfl, rfl, trivial⟩ ?_
          exact ih2 (i + 1) _ ⟨by omega, by omega, fun k c0 c1 => if e : k = i then (by rw [e]; omega) else hI2 k c0 (by omega)⟩ (by omega) hT
        · skip
          refine j_iload_n F rfl dX3_placeAssumed_28 ?_
          exact j_iret F E (Nat.zero_le _) (Nat.zero_le _) dX3_placeAssumed_29 (ti_post hT ⟨(lst_at hI0 (by omega) (by omega) hI2).symm, rfl⟩)
  refine j_lv (lv' := [(0, .ref x), (1, vI a), (2, vI 0)]) ⟨rfl, rfl, rfl, trivial⟩ ?_
  exact L2 _ 0 _ ⟨by omega, by omega, fun c c0 c1 => by omega⟩ (Nat.lt_succ_self _) hT
