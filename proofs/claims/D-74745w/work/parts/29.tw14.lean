/-- a literal in a text: behind its sign; its number's begin, end, value; its fault, its value -/
def liQ (M : Mt) : Int := nuB M + (if hr M = 45 then 1 else 0)
def liB (M : Mt) : Int := sk (M 21) (M 23 0) (liQ M)
def liE (M : Mt) : Int := dg (M 21) (M 23 0) (liB M)
def liV (M : Mt) : Int := nvF (M 21) (liB M) (liE M - liB M).toNat
def liF0 (M : Mt) (fu : Int) : Int := if hr M = 45 ∧ fu = 1 then 3 + 8 * nuB M else 0
def liF1 (M : Mt) (fu : Int) : Int := if liF0 M fu ≠ 0 then liF0 M fu else if 1 ≤ liE M - liB M ∧ liE M - liB M ≤ 2 then 0 else 1 + 8 * liB M
def liF2 (M : Mt) (u fu : Int) : Int := if liF1 M fu ≠ 0 then liF1 M fu else if ¬ (1 ≤ liV M ∧ liV M ≤ M 1 0) ∨ (u = 1 ∧ M 26 (liV M) = 1) then 2 + 8 * liB M else 0
def liF (M : Mt) (u fu : Int) : Int := if liF2 M u fu ≠ 0 then liF2 M u fu else if fu = 1 then 3 + 8 * liB M else 0
def liL (M : Mt) : Int := if hr M = 45 then -(liV M) else liV M
/-- all but place and fault stand as they were -/
def xsm (M N : Mt) : Prop := ∀ q : Nat, q ≠ 24 → q ≠ 25 → N q = M q
theorem TX.of {M N : Mt} (h : TX M) (hx : xsm M N) (h4 : 0 ≤ N 24 0 ∧ N 24 0 ≤ 1000) (h5 : 0 ≤ N 25 0 ∧ N 25 0 ≤ 100000) : TX N := by
  obtain ⟨h1, h2, h3, -, -, h6⟩ := h
  refine ⟨?_, ?_, ?_, h4, h5, ?_⟩
  · rw [hx 21 (by decide) (by decide)]; exact h1
  · rw [hx 22 (by decide) (by decide)]; exact h2
  · rw [hx 23 (by decide) (by decide)]; exact h3
  · rw [hx 26 (by decide) (by decide)]; exact h6
theorem xsm_fl {M N : Mt} (hx : xsm M N) (k w : Int) : xsm M (flM N k w) := fun q h1 h2 => by
  unfold flM
  split
  · rw [oM_n _ _ _ h2]; exact hx q h1 h2
  · exact hx q h1 h2
theorem fl_24 (N : Mt) (k w : Int) : flM N k w 24 0 = N 24 0 := by unfold flM; split <;> rfl
theorem fl_25 (N : Mt) (k w : Int) : flM N k w 25 0 = if N 25 0 = 0 then k + 8 * w else N 25 0 := by unfold flM; split <;> rfl
theorem sk_le {T : Int → Int} {n p b : Int} (hn : n ≤ b) (hp : p ≤ b) : sk T n p ≤ b := by
  by_cases e : p ≤ n
  · have := (sk_rg T n p).2 e; omega
  · rw [sk_gt (by omega)]; exact hp
theorem dg_le {T : Int → Int} {n p b : Int} (hn : n ≤ b) (hp : p ≤ b) : dg T n p ≤ b := by
  by_cases e : p ≤ n
  · have := (dg_rg T n p).2 e; omega
  · rw [dg_gt (by omega)]; exact hp
theorem pd_X3_lit : yX3_lit.cls = RX3 ∧ yX3_lit.cls ≠ "java/lang/invoke/MethodHandle" ∧ yX3_lit.cls ≠ "java/lang/invoke/VarHandle" ∧ (parseMethodDescriptor yX3_lit.desc).map (fun d => d.parameters.length) = some 2 := by decide +kernel
theorem ct_X3_lit (l : Launch) (G : Gt) (KS : Ks l G) (x : Nat) (M : Mt) {u fu : Int} (hu : u = 0 ∨ u = 1) (hfu : fu = 0 ∨ fu = 1) (hV : 0 ≤ M 1 0 ∧ M 1 0 ≤ 30) (hX : TX M) (hp : M 24 0 ≤ 500) (hf0 : M 25 0 = 0) : TI l G yX3_lit cX3_lit 6 (some FieldType.int) 4 x [vI u, vI fu] M (fun v M' => M' 25 0 = liF M u fu ∧ (∀ q : Nat, q ≠ 24 → q ≠ 25 → q ≠ 26 → M' q = M q) ∧ M' 24 0 = liE M ∧ (liF M u fu ≠ 0 → v = 0 ∧ M' 26 = M 26) ∧ (liF M u fu = 0 → v = liL M ∧ M' 26 = oI (M 26) (liV M) 1)) := by
  intro h0 h hT
  refine ct_of KS (by decide) (Nat.le_of_ble_eq_true rfl) (fun X F E => ?_)
  refine j_lv (lv' := [(0, .ref x), (1, vI u), (2, vI fu)]) ⟨rfl, rfl, rfl, trivial⟩ ?_
  have hX' := hX
  obtain ⟨hX1, hX2, hX3, hX4, hX5, hX6⟩ := hX
  have hB0 : 0 ≤ nuB M ∧ nuB M ≤ 500 := ⟨Int.le_trans hX4.1 (sk_rg _ _ _).1, sk_le (by omega) hp⟩
  have hQ : 0 ≤ liQ M ∧ liQ M ≤ 501 := by unfold liQ; split <;> omega
  have hB1 : 0 ≤ liB M ∧ liB M ≤ 501 := ⟨Int.le_trans hQ.1 (sk_rg _ _ _).1, sk_le (by omega) (by omega)⟩
  have hE1 : 0 ≤ liE M ∧ liE M ≤ 501 := ⟨Int.le_trans hB1.1 (dg_rg _ _ _).1, dg_le (by omega) (by omega)⟩
  have hV1 : 0 ≤ liV M ∧ liV M ≤ 99 := nv_rg _ _ _
  have hFa : 0 ≤ liF0 M fu ∧ liF0 M fu ≤ 5000 := by unfold liF0; split <;> omega
  have hFb : 0 ≤ liF1 M fu ∧ liF1 M fu ≤ 5000 := by unfold liF1; (repeat' split) <;> omega
  have hFc : 0 ≤ liF2 M u fu ∧ liF2 M u fu ≤ 5000 := by unfold liF2; (repeat' split) <;> omega
  have hFd : 0 ≤ liF M u fu ∧ liF M u fu ≤ 5000 := by unfold liF; (repeat' split) <;> omega
  have C122 : ∀ (w : Int) (N122 : Mt) (h : Hp), (w = (if hr M = 45 then 1 else 0) ∧ xsm M N122 ∧ N122 24 0 = liE M ∧ N122 25 0 = liF M u fu) → Tw G x N122 h0 h → J X h 122 [(0, .ref x), (1, vI u), (2, vI fu), (3, vI w), (4, vI (liB M)), (5, vI (liV M))] [] 0 0 := by
    intro w N122 h hC hT
    obtain ⟨hw, hx, h24, h25⟩ := hC
    refine j_aload_n F rfl dX3_lit_122 ?_
    refine t_get F hT 25 (by decide) (v := vI (liF M u fu)) (congrArg (fun z => some (vI z)) h25) q1511 dX3_lit_123 ?_
    refine j_if_eq F 131 (by decide) (by omega) dX3_lit_126 (fun c126 => ?_) (fun c126 => ?_)
    · skip
      have hV9 : 1 ≤ liV M ∧ liV M ≤ M 1 0 := by
        have hg := c126
        unfold liF at hg
        split at hg
        · omega
        · rename_i q
          have q' : liF2 M u fu = 0 := by omega
          unfold liF2 at q'
          split at q'
          · omega
          · split at q'
            · omega
            · omega
      refine j_aload_n F rfl dX3_lit_131 ?_
      refine t_get F hT 26 (by decide) rfl q1512 dX3_lit_132 ?_
      refine j_iload F rfl dX3_lit_135 ?_
      refine j_iconst F dX3_lit_137 ?_
      refine t_zast F hT 26 tm_26 rfl (by omega) (by omega) dX3_lit_138 (fun h hT => ?_)
      refine j_iload_n F rfl dX3_lit_139 ?_
      refine j_if_eq F 149 (by decide) (by split at hw <;> omega) dX3_lit_140 (fun c140 => ?_) (fun c140 => ?_)
      · skip
        have e45 : ¬ hr M = 45 := by split at hw <;> omega
        refine j_iload F rfl dX3_lit_149 ?_
        exact j_iret F E (Nat.zero_le _) (Nat.zero_le _) dX3_lit_151 (ti_post hT ⟨h25, fun q q1 q2 q3 => (oM_n _ _ _ q3).trans (hx q q1 q2), h24, fun q => absurd c126 q, fun _ => ⟨by unfold liL; first | rw [if_neg e45] | rw [if_pos e45], by rw [oM_s, hx 26 (by decide) (by decide)]⟩⟩)
      · skip
        have e45 : hr M = 45 := by split at hw <;> omega
        refine j_iload F rfl dX3_lit_143 ?_
        refine j_ineg F dX3_lit_145 ?_
        refine j_goto F 151 (by decide) dX3_lit_146 ?_
        exact j_iret F E (Nat.zero_le _) (Nat.zero_le _) dX3_lit_151 (ti_post hT ⟨h25, fun q q1 q2 q3 => (oM_n _ _ _ q3).trans (hx q q1 q2), h24, fun q => absurd c126 q, fun _ => ⟨by unfold liL; first | rw [if_neg e45] | rw [if_pos e45], by rw [oM_s, hx 26 (by decide) (by decide)]⟩⟩)
    · skip
      refine j_iconst F dX3_lit_129 ?_
      exact j_iret F E (Nat.zero_le _) (Nat.zero_le _) dX3_lit_130 (ti_post hT ⟨h25, fun q q1 q2 q3 => hx q q1 q2, h24, fun _ => ⟨rfl, hx 26 (by decide) (by decide)⟩, fun q => absurd q c126⟩)
  have C104 : ∀ (w : Int) (N104 : Mt) (h : Hp), (w = (if hr M = 45 then 1 else 0) ∧ xsm M N104 ∧ N104 24 0 = liE M ∧ N104 25 0 = liF2 M u fu) → Tw G x N104 h0 h → J X h 104 [(0, .ref x), (1, vI u), (2, vI fu), (3, vI w), (4, vI (liB M)), (5, vI (liV M))] [] 0 0 := by
    intro w N104 h hC hT
    obtain ⟨hw, hx, h24, h25⟩ := hC
    refine j_aload_n F rfl dX3_lit_104 ?_
    refine t_get F hT 25 (by decide) (v := vI (liF2 M u fu)) (congrArg (fun z => some (vI z)) h25) q1511 dX3_lit_105 ?_
    refine j_if_ne F 122 (by decide) (by omega) dX3_lit_108 (fun c108 => ?_) (fun c108 => ?_)
    · skip
      refine j_lv (lv' := [(0, .ref x), (1, vI u), (2, vI fu), (3, vI w), (4, vI (liB M)), (5, vI (liV M))]) ⟨rfl, rfl, rfl, rfl, rfl, rfl, trivial⟩ ?_
      exact C122 w _ _ ⟨hw, by first | exact hx | exact xsm_fl hx _ _, by first | exact h24 | exact (fl_24 _ _ _).trans h24, by first | (rw [h25]; unfold liF; rw [if_pos (by omega)]) | (rw [h25]; unfold liF; rw [if_neg (by omega), if_neg (by omega)]; omega) | (rw [fl_25, h25, if_pos (by omega)]; unfold liF; rw [if_neg (by omega), if_pos (by omega)])⟩ hT
    · skip
      refine j_iload_n F rfl dX3_lit_111 ?_
      refine j_if_eq F 122 (by decide) (by omega) dX3_lit_112 (fun c112 => ?_) (fun c112 => ?_)
      · skip
        refine j_lv (lv' := [(0, .ref x), (1, vI u), (2, vI fu), (3, vI w), (4, vI (liB M)), (5, vI (liV M))]) ⟨rfl, rfl, rfl, rfl, rfl, rfl, trivial⟩ ?_
        exact C122 w _ _ ⟨hw, by first | exact hx | exact xsm_fl hx _ _, by first | exact h24 | exact (fl_24 _ _ _).trans h24, by first | (rw [h25]; unfold liF; rw [if_pos (by omega)]) | (rw [h25]; unfold liF; rw [if_neg (by omega), if_neg (by omega)]; omega) | (rw [fl_25, h25, if_pos (by omega)]; unfold liF; rw [if_neg (by omega), if_pos (by omega)])⟩ hT
      · skip
        refine j_aload_n F rfl dX3_lit_115 ?_
        refine j_iconst F dX3_lit_116 ?_
        refine j_iload F rfl dX3_lit_117 ?_
        refine t_callV F hT (ct_X3_fails l G KS x _ (k := 3) (w := liB M) (by rw [h25]; unfold rg; omega)) (by decide) (by decide) (lw_V q1832 q1834 qs91 q110 q1835) pd_X3_fails rfl (Nat.le_of_ble_eq_true rfl) (Nat.le_refl _) (Nat.le_refl _) dX3_lit_119 (fun M119 h hv119 hT => ?_)
        subst hv119
        refine j_lv (lv' := [(0, .ref x), (1, vI u), (2, vI fu), (3, vI w), (4, vI (liB M)), (5, vI (liV M))]) ⟨rfl, rfl, rfl, rfl, rfl, rfl, trivial⟩ ?_
        exact C122 w _ _ ⟨hw, by first | exact hx | exact xsm_fl hx _ _, by first | exact h24 | exact (fl_24 _ _ _).trans h24, by first | (rw [h25]; unfold liF; rw [if_pos (by omega)]) | (rw [h25]; unfold liF; rw [if_neg (by omega), if_neg (by omega)]; omega) | (rw [fl_25, h25, if_pos (by omega)]; unfold liF; rw [if_neg (by omega), if_pos (by omega)])⟩ hT
  have C67 : ∀ (w : Int) (N67 : Mt) (h : Hp), (w = (if hr M = 45 then 1 else 0) ∧ xsm M N67 ∧ N67 24 0 = liE M ∧ N67 25 0 = liF1 M fu) → Tw G x N67 h0 h → J X h 67 [(0, .ref x), (1, vI u), (2, vI fu), (3, vI w), (4, vI (liB M)), (5, vI (liV M))] [] 0 0 := by
    intro w N67 h hC hT
    obtain ⟨hw, hx, h24, h25⟩ := hC
    refine j_aload_n F rfl dX3_lit_67 ?_
    refine t_get F hT 25 (by decide) (v := vI (liF1 M fu)) (congrArg (fun z => some (vI z)) h25) q1511 dX3_lit_68 ?_
    refine j_if_ne F 104 (by decide) (by omega) dX3_lit_71 (fun c71 => ?_) (fun c71 => ?_)
    · skip
      refine j_lv (lv' := [(0, .ref x), (1, vI u), (2, vI fu), (3, vI w), (4, vI (liB M)), (5, vI (liV M))]) ⟨rfl, rfl, rfl, rfl, rfl, rfl, trivial⟩ ?_
      exact C104 w _ _ ⟨hw, by first | exact hx | exact xsm_fl hx _ _, by first | exact h24 | exact (fl_24 _ _ _).trans h24, by first | (rw [h25]; unfold liF2; rw [if_pos (by omega)]) | (rw [h25]; unfold liF2; rw [if_neg (by omega), if_neg hgood]; omega) | (rw [fl_25, h25, if_pos (by omega)]; unfold liF2; rw [if_neg (by omega), if_pos hbad])⟩ hT
    · skip
      refine j_aload_n F rfl dX3_lit_74 ?_
      refine j_iload F rfl dX3_lit_75 ?_
      refine t_callI F hT (ct_X3_isVariable l G KS x _ (a := liV M) (by unfold rg; omega) (by rw [hx 1 (by decide) (by decide)]; exact hV)) (by decide) (by decide) (lw_V q1594 q1596 qs52 q110 q1597) pd_X3_isVariable rfl (Nat.le_of_ble_eq_true rfl) (Nat.le_refl _) (Nat.le_refl _) dX3_lit_77 (fun v77 M' h hv77 hT => ?_)
      obtain ⟨hv77, rfl⟩ := hv77
      rw [hx 1 (by decide) (by decide)] at hv77
      have z77 := z01 hv77
      refine j_if_eq F 97 (by decide) (by omega) dX3_lit_80 (fun c80 => ?_) (fun c80 => ?_)
      · skip
        have hbad : ¬ (1 ≤ liV M ∧ liV M ≤ M 1 0) ∨ (u = 1 ∧ M 26 (liV M) = 1) := Or.inl (by split at hv77 <;> omega)
        refine j_aload_n F rfl dX3_lit_97 ?_
        refine j_iconst F dX3_lit_98 ?_
        refine j_iload F rfl dX3_lit_99 ?_
        refine t_callV F hT (ct_X3_fails l G KS x _ (k := 2) (w := liB M) (by rw [h25]; unfold rg; omega)) (by decide) (by decide) (lw_V q1832 q1834 qs91 q110 q1835) pd_X3_fails rfl (Nat.le_of_ble_eq_true rfl) (Nat.le_refl _) (Nat.le_refl _) dX3_lit_101 (fun M101 h hv101 hT => ?_)
        subst hv101
        refine j_lv (lv' := [(0, .ref x), (1, vI u), (2, vI fu), (3, vI w), (4, vI (liB M)), (5, vI (liV M))]) ⟨rfl, rfl, rfl, rfl, rfl, rfl, trivial⟩ ?_
        exact C104 w _ _ ⟨hw, by first | exact hx | exact xsm_fl hx _ _, by first | exact h24 | exact (fl_24 _ _ _).trans h24, by first | (rw [h25]; unfold liF2; rw [if_pos (by omega)]) | (rw [h25]; unfold liF2; rw [if_neg (by omega), if_neg hgood]; omega) | (rw [fl_25, h25, if_pos (by omega)]; unfold liF2; rw [if_neg (by omega), if_pos hbad])⟩ hT
      · skip
        have hin : 1 ≤ liV M ∧ liV M ≤ M 1 0 := by split at hv77 <;> omega
        have h26 := hX6 (liV M) (by omega) (by omega)
        refine j_iload_n F rfl dX3_lit_83 ?_
        refine j_if_eq F 104 (by decide) (by omega) dX3_lit_84 (fun c84 => ?_) (fun c84 => ?_)
        · skip
          have hgood : ¬ (¬ (1 ≤ liV M ∧ liV M ≤ M 1 0) ∨ (u = 1 ∧ M 26 (liV M) = 1)) := by omega
          refine j_lv (lv' := [(0, .ref x), (1, vI u), (2, vI fu), (3, vI w), (4, vI (liB M)), (5, vI (liV M))]) ⟨rfl, rfl, rfl, rfl, rfl, rfl, trivial⟩ ?_
          exact C104 w _ _ ⟨hw, by first | exact hx | exact xsm_fl hx _ _, by first | exact h24 | exact (fl_24 _ _ _).trans h24, by first | (rw [h25]; unfold liF2; rw [if_pos (by omega)]) | (rw [h25]; unfold liF2; rw [if_neg (by omega), if_neg hgood]; omega) | (rw [fl_25, h25, if_pos (by omega)]; unfold liF2; rw [if_neg (by omega), if_pos hbad])⟩ hT
        · skip
          refine j_aload_n F rfl dX3_lit_87 ?_
          refine t_get F hT 26 (by decide) rfl q1512 dX3_lit_88 ?_
          refine j_iload F rfl dX3_lit_91 ?_
          refine t_zaldw F hT 26 tm_26 (M 26 (liV M)) (by rw [hx 26 (by decide) (by decide)]) (by omega) dX3_lit_93 ?_
          refine j_if_eq F 104 (by decide) (by omega) dX3_lit_94 (fun c94 => ?_) (fun c94 => ?_)
          · skip
            have hgood : ¬ (¬ (1 ≤ liV M ∧ liV M ≤ M 1 0) ∨ (u = 1 ∧ M 26 (liV M) = 1)) := by omega
            refine j_lv (lv' := [(0, .ref x), (1, vI u), (2, vI fu), (3, vI w), (4, vI (liB M)), (5, vI (liV M))]) ⟨rfl, rfl, rfl, rfl, rfl, rfl, trivial⟩ ?_
            exact C104 w _ _ ⟨hw, by first | exact hx | exact xsm_fl hx _ _, by first | exact h24 | exact (fl_24 _ _ _).trans h24, by first | (rw [h25]; unfold liF2; rw [if_pos (by omega)]) | (rw [h25]; unfold liF2; rw [if_neg (by omega), if_neg hgood]; omega) | (rw [fl_25, h25, if_pos (by omega)]; unfold liF2; rw [if_neg (by omega), if_pos hbad])⟩ hT
          · skip
            have hbad : ¬ (1 ≤ liV M ∧ liV M ≤ M 1 0) ∨ (u = 1 ∧ M 26 (liV M) = 1) := by omega
            refine j_aload_n F rfl dX3_lit_97 ?_
            refine j_iconst F dX3_lit_98 ?_
            refine j_iload F rfl dX3_lit_99 ?_
            refine t_callV F hT (ct_X3_fails l G KS x _ (k := 2) (w := liB M) (by rw [h25]; unfold rg; omega)) (by decide) (by decide) (lw_V q1832 q1834 qs91 q110 q1835) pd_X3_fails rfl (Nat.le_of_ble_eq_true rfl) (Nat.le_refl _) (Nat.le_refl _) dX3_lit_101 (fun M101 h hv101 hT => ?_)
            subst hv101
            refine j_lv (lv' := [(0, .ref x), (1, vI u), (2, vI fu), (3, vI w), (4, vI (liB M)), (5, vI (liV M))]) ⟨rfl, rfl, rfl, rfl, rfl, rfl, trivial⟩ ?_
            exact C104 w _ _ ⟨hw, by first | exact hx | exact xsm_fl hx _ _, by first | exact h24 | exact (fl_24 _ _ _).trans h24, by first | (rw [h25]; unfold liF2; rw [if_pos (by omega)]) | (rw [h25]; unfold liF2; rw [if_neg (by omega), if_neg hgood]; omega) | (rw [fl_25, h25, if_pos (by omega)]; unfold liF2; rw [if_neg (by omega), if_pos hbad])⟩ hT
  have C50 : ∀ (w : Int) (N50 : Mt) (h : Hp), (w = (if hr M = 45 then 1 else 0) ∧ xsm M N50 ∧ N50 24 0 = liQ M ∧ N50 25 0 = liF0 M fu) → Tw G x N50 h0 h → J X h 50 [(0, .ref x), (1, vI u), (2, vI fu), (3, vI w)] [] 0 0 := by
    intro w N50 h hC hT
    obtain ⟨hw, hx, h24, h25⟩ := hC
    refine j_aload_n F rfl dX3_lit_50 ?_
    refine t_callI F hT (ct_X3_here l G KS x N50 (hX'.of hx (by omega) (by omega))) (by decide) (by decide) (lw_V q1820 q1822 qs88 q110 q1823) pd_X3_here rfl (Nat.le_of_ble_eq_true rfl) (Nat.le_refl _) (Nat.le_refl _) dX3_lit_51 (fun v51 M51 h hv51 hT => ?_)
    obtain ⟨-, e51⟩ := hv51
    subst e51
    have hx1 : xsm M (hrM N50) := fun q q1 q2 => (oM_n _ _ _ q1).trans (hx q q1 q2)
    have hsk : sk (N50 21) (N50 23 0) (N50 24 0) = liB M := by rw [hx 21 (by decide) (by decide), hx 23 (by decide) (by decide), h24]; rfl
    have h241 : hrM N50 24 0 = liB M := hsk
    have h251 : hrM N50 25 0 = liF0 M fu := h25
    have hX1' := hX'.of hx1 (by omega) (by omega)
    refine j_pop F rfl dX3_lit_54 ?_
    refine j_aload_n F rfl dX3_lit_55 ?_
    refine t_get F hT 24 (by decide) (v := vI (liB M)) (congrArg (fun z => some (vI z)) h241) q1510 dX3_lit_56 ?_
    refine j_istore F (by decide) dX3_lit_59 ?_
    refine j_aload_n F rfl dX3_lit_61 ?_
    refine t_callI F hT (ct_X3_number l G KS x (hrM N50) hX1') (by decide) (by decide) (lw_V q1836 q1838 qs92 q110 q1839) pd_X3_number rfl (Nat.le_of_ble_eq_true rfl) (Nat.le_refl _) (Nat.le_refl _) dX3_lit_62 (fun v62 M62 h hv62 hT => ?_)
    obtain ⟨e62, e63⟩ := hv62
    have hnb : nuB (hrM N50) = liB M := by
      show sk (hrM N50 21) (hrM N50 23 0) (hrM N50 24 0) = _
      rw [hx1 21 (by decide) (by decide), hx1 23 (by decide) (by decide), h241]
      exact sk_sk _ _ _
    have hne : nuE (hrM N50) = liE M := by
      show dg (hrM N50 21) (hrM N50 23 0) (nuB (hrM N50)) = _
      rw [hx1 21 (by decide) (by decide), hx1 23 (by decide) (by decide), hnb]
      rfl
    have hnv : nuV (hrM N50) = liV M := by
      show nvF (hrM N50 21) (nuB (hrM N50)) (nuE (hrM N50) - nuB (hrM N50)).toNat = _
      rw [hx1 21 (by decide) (by decide), hnb, hne]
      rfl
    rw [hnv] at e62
    subst e62 e63
    have hx2 : xsm M (oM (hrM N50) 24 0 (liE M)) := fun q q1 q2 => (oM_n _ _ _ q1).trans (hx1 q q1 q2)
    have hnm : nuM (hrM N50) = if 1 ≤ liE M - liB M ∧ liE M - liB M ≤ 2 then oM (hrM N50) 24 0 (liE M) else flM (oM (hrM N50) 24 0 (liE M)) 1 (liB M) := by unfold nuM; rw [hne, hnb]
    have hx3 : xsm M (nuM (hrM N50)) := by rw [hnm]; split; exact hx2; exact xsm_fl hx2 _ _
    have h243 : nuM (hrM N50) 24 0 = liE M := by rw [hnm]; split; rfl; exact fl_24 _ _ _
    have h253 : nuM (hrM N50) 25 0 = liF1 M fu := by
      rw [hnm]
      unfold liF1
      split
      · show hrM N50 25 0 = _
        rw [h251]; split <;> omega
      · rw [fl_25]
        show (if hrM N50 25 0 = 0 then _ else hrM N50 25 0) = _
        rw [h251]; (repeat' split) <;> omega
    refine j_istore F (by decide) dX3_lit_65 ?_
    refine j_lv (lv' := [(0, .ref x), (1, vI u), (2, vI fu), (3, vI w), (4, vI (liB M)), (5, vI (liV M))]) ⟨rfl, rfl, rfl, rfl, rfl, rfl, trivial⟩ ?_
    exact C67 w _ _ ⟨hw, hx3, h243, h253⟩ hT
  refine j_aload_n F rfl dX3_lit_0 ?_
  refine t_callI F hT (ct_X3_here l G KS x M hX') (by decide) (by decide) (lw_V q1820 q1822 qs88 q110 q1823) pd_X3_here rfl (Nat.le_of_ble_eq_true rfl) (Nat.le_refl _) (Nat.le_refl _) dX3_lit_1 (fun v1 M1 h hv1 hT => ?_)
  obtain ⟨e1, e2⟩ := hv1
  subst e1 e2
  have hg9 : -1 ≤ hr M ∧ hr M ≤ 255 := hrv_rg (M 21) (M 23 0) (M 24 0)
  refine j_bipush F (by decide) dX3_lit_4 ?_
  refine j_icmp_ne F 13 (by decide) (by omega) (by omega) dX3_lit_6 (fun c6 => ?_) (fun c6 => ?_)
  · skip
    have c6' : ¬ hr M = 45 := c6
    refine j_iconst F dX3_lit_13 ?_
    refine j_istore_n F (by decide) dX3_lit_14 ?_
    refine j_iload_n F rfl dX3_lit_15 ?_
    refine j_if_eq F 32 (by decide) (by omega) dX3_lit_16 (fun c16 => ?_) (fun c16 => ?_)
    · skip
      refine j_aload_n F rfl dX3_lit_32 ?_
      refine j_dup F rfl dX3_lit_33 ?_
      refine t_get F hT 24 (by decide) (v := vI (nuB M)) rfl q1510 dX3_lit_34 ?_
      refine j_iload_n F rfl dX3_lit_37 ?_
      refine j_if_eq F 45 (by decide) (by omega) dX3_lit_38 (fun c38 => ?_) (fun c38 => ?_)
      · skip
        refine j_iconst F dX3_lit_45 ?_
        refine j_iadd F dX3_lit_46 ?_
        refine t_put F hT 24 (by decide) rfl rfl rfl (by decide) q1510 dX3_lit_47 (fun h hT => ?_)
        refine j_lv (lv' := [(0, .ref x), (1, vI u), (2, vI fu), (3, vI 0)]) ⟨rfl, rfl, rfl, rfl, trivial⟩ ?_
        exact C50 0 _ _ ⟨by rw [if_neg c6'], fun q q1 q2 => by rw [oM_n _ _ _ q1]; exact oM_n _ _ _ q1, by unfold liQ; rw [if_neg c6']; rfl, by show M 25 0 = _; unfold liF0; rw [if_neg (fun q => c6' q.1)]; exact hf0⟩ hT
      · skip
        exact absurd rfl c38
    · skip
      exact absurd rfl c16
  · skip
    have c6' : hr M = 45 := by omega
    refine j_iconst F dX3_lit_9 ?_
    refine j_goto F 14 (by decide) dX3_lit_10 ?_
    refine j_istore_n F (by decide) dX3_lit_14 ?_
    refine j_iload_n F rfl dX3_lit_15 ?_
    refine j_if_eq F 32 (by decide) (by omega) dX3_lit_16 (fun c16 => ?_) (fun c16 => ?_)
    · skip
      exact absurd c16 (by omega)
    · skip
      refine j_iload_n F rfl dX3_lit_19 ?_
      refine j_if_eq F 32 (by decide) (by omega) dX3_lit_20 (fun c20 => ?_) (fun c20 => ?_)
      · skip
        refine j_aload_n F rfl dX3_lit_32 ?_
        refine j_dup F rfl dX3_lit_33 ?_
        refine t_get F hT 24 (by decide) (v := vI (nuB M)) rfl q1510 dX3_lit_34 ?_
        refine j_iload_n F rfl dX3_lit_37 ?_
        refine j_if_eq F 45 (by decide) (by omega) dX3_lit_38 (fun c38 => ?_) (fun c38 => ?_)
        · skip
          exact absurd c38 (by omega)
        · skip
          refine j_iconst F dX3_lit_41 ?_
          refine j_goto F 46 (by decide) dX3_lit_42 ?_
          refine j_iadd F dX3_lit_46 ?_
          refine t_put F hT 24 (by decide) rfl rfl rfl (by decide) q1510 dX3_lit_47 (fun h hT => ?_)
          refine j_lv (lv' := [(0, .ref x), (1, vI u), (2, vI fu), (3, vI 1)]) ⟨rfl, rfl, rfl, rfl, trivial⟩ ?_
          exact C50 1 _ _ ⟨by rw [if_pos c6'], fun q q1 q2 => by rw [oM_n _ _ _ q1]; exact oM_n _ _ _ q1, by unfold liQ; rw [if_pos c6']; rfl, by show M 25 0 = _; unfold liF0; rw [if_neg (by omega)]; exact hf0⟩ hT
      · skip
        refine j_aload_n F rfl dX3_lit_23 ?_
        refine j_iconst F dX3_lit_24 ?_
        refine j_aload_n F rfl dX3_lit_25 ?_
        refine t_get F hT 24 (by decide) (v := vI (nuB M)) rfl q1510 dX3_lit_26 ?_
        refine t_callV F hT (ct_X3_fails l G KS x _ (k := 3) (w := nuB M) (by show rg (M 25 0); unfold rg; omega)) (by decide) (by decide) (lw_V q1832 q1834 qs91 q110 q1835) pd_X3_fails rfl (Nat.le_of_ble_eq_true rfl) (Nat.le_refl _) (Nat.le_refl _) dX3_lit_29 (fun M29 h hv29 hT => ?_)
        subst hv29
        have e24 : flM (hrM M) 3 (nuB M) 24 0 = nuB M := fl_24 _ _ _
        refine j_aload_n F rfl dX3_lit_32 ?_
        refine j_dup F rfl dX3_lit_33 ?_
        refine t_get F hT 24 (by decide) (v := vI (nuB M)) (congrArg (fun z => some (vI z)) e24) q1510 dX3_lit_34 ?_
        refine j_iload_n F rfl dX3_lit_37 ?_
        refine j_if_eq F 45 (by decide) (by omega) dX3_lit_38 (fun c38 => ?_) (fun c38 => ?_)
        · skip
          exact absurd c38 (by omega)
        · skip
          refine j_iconst F dX3_lit_41 ?_
          refine j_goto F 46 (by decide) dX3_lit_42 ?_
          refine j_iadd F dX3_lit_46 ?_
          refine t_put F hT 24 (by decide) rfl rfl rfl (by decide) q1510 dX3_lit_47 (fun h hT => ?_)
          refine j_lv (lv' := [(0, .ref x), (1, vI u), (2, vI fu), (3, vI 1)]) ⟨rfl, rfl, rfl, rfl, trivial⟩ ?_
          exact C50 1 _ _ ⟨by rw [if_pos c6'], fun q q1 q2 => by rw [oM_n _ _ _ q1]; exact xsm_fl (M := M) (N := hrM M) (fun q q1 q2 => oM_n _ _ _ q1) _ _ q q1 q2, by unfold liQ; rw [if_pos c6']; rfl, by show flM (hrM M) 3 (nuB M) 25 0 = _; rw [fl_25, if_pos (show hrM M 25 0 = 0 from hf0)]; unfold liF0; rw [if_pos ⟨c6', by omega⟩]⟩ hT
