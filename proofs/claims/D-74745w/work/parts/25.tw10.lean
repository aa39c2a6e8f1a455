/-! texts -/
def by9 (a : Int) : Int := ((Int32.ofInt a).toInt8.toInt32).toInt
theorem by9_e (a : Int) : (Int32.ofInt a).toInt8.toInt32 = Int32.ofInt (by9 a) := (Int32.ofInt_toInt _).symm
theorem by9_n (a : Int) : narrow .byte (vI (by9 a)) = vI (by9 a) := by
  have e : vI (by9 a) = .int (Int32.ofInt a).toInt8.toInt32 := by rw [by9_e]; rfl
  rw [e]
  exact pk_nb _
theorem by9_rg (a : Int) : -128 ≤ by9 a ∧ by9 a ≤ 127 := by
  have h1 := Int8.le_toInt (Int32.ofInt a).toInt8
  have h2 := Int8.toInt_lt (Int32.ofInt a).toInt8
  unfold by9
  rw [Int8.toInt_toInt32]
  omega
/-- n bytes of w laid from t on -/
def tpF (T : Int → Int) (t w n : Int) : Int → Int := fun j => if t ≤ j ∧ j < t + n then by9 (shr9 w (24 - 8 * (j - t))) else T j
theorem tpF_0 (T : Int → Int) (t w : Int) : tpF T t w 0 = T := funext fun j => if_neg (by omega)
theorem tpF_s {T : Int → Int} {t w i k : Int} (hi : 0 ≤ i) (hk : k = 24 - 8 * i) : oI (tpF T t w i) (t + i) (by9 (shr9 w k)) = tpF T t w (i + 1) := by
  funext j
  unfold oI tpF
  by_cases e : j = t + i
  · rw [if_pos e, if_pos (by omega), hk, show j - t = i by omega]
  · rw [if_neg e]
    by_cases e2 : t ≤ j ∧ j < t + i
    · rw [if_pos e2, if_pos (by omega)]
    · rw [if_neg e2, if_neg (by omega)]
def puM (M : Mt) (w : Int) : Mt := oM (sM M 21 (tpF (M 21) (M 22 0) w 4)) 22 0 (M 22 0 + 4)
def by8 (T : Int → Int) : Prop := ∀ i : Int, 0 ≤ i → i < 400 → -128 ≤ T i ∧ T i ≤ 127
/-- white signs are passed over -/
def skF (T : Int → Int) (n : Int) : Nat → Int → Int
  | 0, p => p
  | f + 1, p => if p < n ∧ (T p = 32 ∨ T p = 10) then skF T n f (p + 1) else p
def sk (T : Int → Int) (n p : Int) : Int := skF T n (n - p).toNat p
theorem sk_in {T : Int → Int} {n p : Int} (h : p < n ∧ (T p = 32 ∨ T p = 10)) : sk T n p = sk T n (p + 1) := by
  unfold sk
  rw [show (n - p).toNat = (n - (p + 1)).toNat + 1 by omega, skF, if_pos h]
theorem sk_out {T : Int → Int} {n p : Int} (h : ¬ (p < n ∧ (T p = 32 ∨ T p = 10))) : sk T n p = p := by
  unfold sk
  cases (n - p).toNat with
  | zero => rfl
  | succ f => rw [skF, if_neg h]
theorem skF_rg (T : Int → Int) (n : Int) : ∀ (f : Nat) (p : Int), p ≤ skF T n f p ∧ (p ≤ n → skF T n f p ≤ n)
  | 0, p => by simp [skF]
  | f + 1, p => by
    unfold skF
    split
    · rename_i q
      have := skF_rg T n f (p + 1)
      exact ⟨by omega, fun h => this.2 (by omega)⟩
    · exact ⟨Int.le_refl _, id⟩
theorem sk_rg (T : Int → Int) (n p : Int) : p ≤ sk T n p ∧ (p ≤ n → sk T n p ≤ n) := skF_rg T n _ p
theorem sk_gt {T : Int → Int} {n p : Int} (h : n ≤ p) : sk T n p = p := sk_out (by omega)
theorem sk_stop (T : Int → Int) (n : Int) : ∀ (f : Nat) (p : Int), (n - p).toNat ≤ f → ¬ (sk T n p < n ∧ (T (sk T n p) = 32 ∨ T (sk T n p) = 10)) := by
  intro f
  induction f with
  | zero =>
    intro p hp
    rw [sk_gt (by omega)]
    omega
  | succ f ih =>
    intro p hp
    by_cases q : p < n ∧ (T p = 32 ∨ T p = 10)
    · rw [sk_in q]
      exact ih (p + 1) (by omega)
    · rw [sk_out q]
      exact q
theorem sk_sk (T : Int → Int) (n p : Int) : sk T n (sk T n p) = sk T n p := sk_out (sk_stop T n _ p (Nat.le_refl _))
/-- the sign at hand: none -1 -/
def hrv (T : Int → Int) (n p : Int) : Int := if sk T n p < n then and9 (T (sk T n p)) 255 else -1
theorem hrv_sk (T : Int → Int) (n p : Int) : hrv T n (sk T n p) = hrv T n p := by unfold hrv; rw [sk_sk]
theorem and9_rg (a : Int) : 0 ≤ and9 a 255 ∧ and9 a 255 ≤ 255 := by
  unfold and9
  have h := pk_and (Int32.ofInt a) (m := Int32.ofInt 255) 8 (by decide)
  rw [h]
  have h2 : (Int32.ofInt a).toBitVec.toNat % 2 ^ 8 < 256 := Nat.mod_lt _ (by decide)
  rw [nI_toInt (by omega)]
  omega
theorem hrv_rg (T : Int → Int) (n p : Int) : -1 ≤ hrv T n p ∧ hrv T n p ≤ 255 := by
  unfold hrv
  have := and9_rg (T (sk T n p))
  split <;> omega
theorem oM_id (M : Mt) (k : Nat) (i : Int) : oM M k i (M k i) = M := by
  funext q
  by_cases h : q = k
  · subst h
    rw [oM_s]
    funext j
    unfold oI
    split
    · rename_i e
      rw [e]
    · rfl
  · rw [oM_n _ _ _ h]
theorem oM_oM (M : Mt) (k : Nat) (i v w : Int) : oM (oM M k i v) k i w = oM M k i w := by
  funext q
  by_cases h : q = k
  · subst h
    rw [oM_s, oM_s, oM_s]
    funext j
    unfold oI
    split <;> rfl
  · rw [oM_n _ _ _ h, oM_n _ _ _ h, oM_n _ _ _ h]
/-- a fault is noted, the first one alone -/
def flM (M : Mt) (k w : Int) : Mt := if M 25 0 = 0 then oM M 25 0 (k + 8 * w) else M
/-- the place moves to the sign at hand -/
def hrM (M : Mt) : Mt := oM M 24 0 (sk (M 21) (M 23 0) (M 24 0))
def hr (M : Mt) : Int := hrv (M 21) (M 23 0) (M 24 0)
/-- the text's ranges -/
def TX (M : Mt) : Prop := by8 (M 21) ∧ (0 ≤ M 22 0 ∧ M 22 0 ≤ 400) ∧ (0 ≤ M 23 0 ∧ M 23 0 ≤ 400) ∧ (0 ≤ M 24 0 ∧ M 24 0 ≤ 1000) ∧ (0 ≤ M 25 0 ∧ M 25 0 ≤ 100000) ∧ b01 (M 26)
theorem put_step {M : Mt} {w i k : Int} (hi : 0 ≤ i) (hk : k = 24 - 8 * i) : oM (oM (oM (sM M 21 (tpF (M 21) (M 22 0) w i)) 22 0 (M 22 0 + i)) 21 (M 22 0 + i) (by9 (shr9 w k))) 22 0 (M 22 0 + i + 1) = oM (sM M 21 (tpF (M 21) (M 22 0) w (i + 1))) 22 0 (M 22 0 + (i + 1)) := by
  funext q
  by_cases h1 : q = 22
  · subst h1
    funext j
    show oI (oI (M 22) 0 (M 22 0 + i)) 0 (M 22 0 + i + 1) j = oI (M 22) 0 (M 22 0 + (i + 1)) j
    unfold oI
    by_cases e : j = 0
    · rw [if_pos e, if_pos e]; omega
    · rw [if_neg e, if_neg e, if_neg e]
  · rw [oM_n _ _ _ h1, oM_n _ _ _ h1]
    by_cases h2 : q = 21
    · subst h2
      rw [oM_s, oM_n _ _ _ h1, sM_s, sM_s, tpF_s hi hk]
    · rw [oM_n _ _ _ h2, oM_n _ _ _ h1, sM_n _ _ h2, sM_n _ _ h2]
theorem pd_X3_put : yX3_put.cls = RX3 ∧ yX3_put.cls ≠ "java/lang/invoke/MethodHandle" ∧ yX3_put.cls ≠ "java/lang/invoke/VarHandle" ∧ (parseMethodDescriptor yX3_put.desc).map (fun d => d.parameters.length) = some 1 := by decide +kernel
theorem ct_X3_put (l : Launch) (G : Gt) (KS : Ks l G) (x : Nat) (M : Mt) {w : Int} (ht : 0 ≤ M 22 0 ∧ M 22 0 ≤ 396) : TV l G yX3_put cX3_put 3 1 x [vI w] M (fun M' => M' = puM M w) := by
  intro h0 h hT
  refine ct_of KS (by decide) (Nat.le_of_ble_eq_true rfl) (fun X F E => ?_)
  refine j_lv (lv' := [(0, .ref x), (1, vI w)]) ⟨rfl, rfl, trivial⟩ ?_
  refine j_bipush F (by decide) dX3_put_0 ?_
  refine j_istore_n F (by decide) dX3_put_2 ?_
  have L3 : ∀ (m3 : Nat) (k i : Int) (N : Mt) (h : Hp), (0 ≤ i ∧ i ≤ 4 ∧ k = 24 - 8 * i ∧ N = oM (sM M 21 (tpF (M 21) (M 22 0) w i)) 22 0 (M 22 0 + i)) → (4 - i).toNat < m3 → Tw G x N h0 h → J X h 3 [(0, .ref x), (1, vI w), (2, vI k)] [] 0 0 := by
    intro m3
    induction m3 with
    | zero => intro k i N h hI hm3 hT; exact absurd hm3 (Nat.not_lt_zero _)
    | succ m3 ih3 =>
      intro k i N h hI hm3 hT
      obtain ⟨hI0, hI1, hI2, hI3⟩ := hI
      
      refine j_iload_n F rfl dX3_put_3 ?_
      refine j_if_lt F 36 (by decide) (by omega) dX3_put_4 (fun c4 => ?_) (fun c4 => ?_)
      · skip
        exact j_vret F E (Nat.zero_le _) (Nat.zero_le _) dX3_put_36 (tv_post hT (by rw [hI3, show i = 4 by omega]; rfl))
      · skip
        refine j_aload_n F rfl dX3_put_7 ?_
        refine t_get F hT 21 (by decide) rfl q1507 dX3_put_8 ?_
        refine j_aload_n F rfl dX3_put_11 ?_
        refine t_get F hT 22 (by decide) (v := vI (M 22 0 + i)) (by subst hI3; rfl) q1508 dX3_put_12 ?_
        refine j_iload_n F rfl dX3_put_15 ?_
        refine j_iload_n F rfl dX3_put_16 ?_
        refine j_ishr F _ (shr9_e _ _) dX3_put_17 ?_
        refine j_i2b F _ (by9_e _) dX3_put_18 ?_
        refine t_bast F hT 21 tm_21 rfl (by omega) (by9_n _) dX3_put_19 (fun h hT => ?_)
        refine j_aload_n F rfl dX3_put_20 ?_
        refine j_dup F rfl dX3_put_21 ?_
        refine t_get F hT 22 (by decide) (v := vI (M 22 0 + i)) (by subst hI3; rfl) q1508 dX3_put_22 ?_
        refine j_iconst F dX3_put_25 ?_
        refine j_iadd F dX3_put_26 ?_
        refine t_put F hT 22 (by decide) rfl rfl rfl (by decide) q1508 dX3_put_27 (fun h hT => ?_)
        refine j_iinc F rfl (by decide) dX3_put_30 ?_
        refine j_goto F 3 (by decide) dX3_put_33 ?_
        refine j_lv (lv' := [(0, .ref x), (1, vI w), (2, vI (k + -8))]) ⟨rfl, rfl, rfl, trivial⟩ ?_
        exact ih3 (k + -8) (i + 1) _ _ ⟨by omega, by omega, by omega, by subst hI3; exact put_step hI0 hI2⟩ (by omega) hT
  refine j_lv (lv' := [(0, .ref x), (1, vI w), (2, vI 24)]) ⟨rfl, rfl, rfl, trivial⟩ ?_
  exact L3 _ 24 0 _ _ ⟨by omega, by omega, by omega, by rw [tpF_0, sM_self, show M 22 0 + 0 = M 22 0 by omega, oM_id]⟩ (Nat.lt_succ_self _) hT

theorem pd_X3_feed : yX3_feed.cls = RX3 ∧ yX3_feed.cls ≠ "java/lang/invoke/MethodHandle" ∧ yX3_feed.cls ≠ "java/lang/invoke/VarHandle" ∧ (parseMethodDescriptor yX3_feed.desc).map (fun d => d.parameters.length) = some 5 := by decide +kernel
theorem ct_X3_feed (l : Launch) (G : Gt) (KS : Ks l G) (x : Nat) (M : Mt) {a b c d e : Int} (ht : 0 ≤ M 22 0 ∧ M 22 0 ≤ 400) : TI l G yX3_feed cX3_feed 6 (some FieldType.int) 2 x [vI a, vI b, vI c, vI d, vI e] M (fun v M' => M' 0 0 = 0 ∧ M' 1 = M 1 ∧ M' 3 = M 3 ∧ M' 4 = M 4 ∧ M' 25 0 = M 25 0 ∧ (380 < M 22 0 → v = -1 ∧ M' 21 = M 21 ∧ M' 22 0 = M 22 0) ∧ (¬ 380 < M 22 0 → v = M 22 0 + 20 ∧ M' 22 0 = M 22 0 + 20 ∧ M' 21 = tpF (tpF (tpF (tpF (tpF (M 21) (M 22 0) a 4) (M 22 0 + 4) b 4) (M 22 0 + 4 + 4) c 4) (M 22 0 + 4 + 4 + 4) d 4) (M 22 0 + 4 + 4 + 4 + 4) e 4)) := by
  intro h0 h hT
  refine ct_of KS (by decide) (Nat.le_of_ble_eq_true rfl) (fun X F E => ?_)
  refine j_lv (lv' := [(0, .ref x), (1, vI a), (2, vI b), (3, vI c), (4, vI d), (5, vI e)]) ⟨rfl, rfl, rfl, rfl, rfl, rfl, trivial⟩ ?_
  refine j_aload_n F rfl dX3_feed_0 ?_
  refine j_iconst F dX3_feed_1 ?_
  refine t_put F hT 0 (by decide) rfl rfl rfl (by decide) q1486 dX3_feed_2 (fun h hT => ?_)
  refine j_aload_n F rfl dX3_feed_5 ?_
  refine t_get F hT 22 (by decide) (v := vI (M 22 0)) rfl q1508 dX3_feed_6 ?_
  refine j_bipush F (by decide) dX3_feed_9 ?_
  refine j_iadd F dX3_feed_11 ?_
  refine j_sipush F (by decide) dX3_feed_12 ?_
  refine j_icmp_le F 20 (by decide) (by omega) (by omega) dX3_feed_15 (fun c15 => ?_) (fun c15 => ?_)
  · skip
    refine j_aload_n F rfl dX3_feed_20 ?_
    refine j_iload_n F rfl dX3_feed_21 ?_
    refine t_callV F hT (ct_X3_put l G KS x _ (w := a) (show 0 ≤ M 22 0 ∧ M 22 0 ≤ 396 by omega)) (by decide) (by decide) (lw_V q1864 q1866 qs95 q110 q1867) pd_X3_put rfl (Nat.le_of_ble_eq_true rfl) (Nat.le_refl _) (Nat.le_refl _) dX3_feed_22 (fun M22 h hv22 hT => ?_)
    subst hv22
    refine j_aload_n F rfl dX3_feed_25 ?_
    refine j_iload_n F rfl dX3_feed_26 ?_
    refine t_callV F hT (ct_X3_put l G KS x _ (w := b) (show 0 ≤ M 22 0 + 4 ∧ M 22 0 + 4 ≤ 396 by omega)) (by decide) (by decide) (lw_V q1864 q1866 qs95 q110 q1867) pd_X3_put rfl (Nat.le_of_ble_eq_true rfl) (Nat.le_refl _) (Nat.le_refl _) dX3_feed_27 (fun M27 h hv27 hT => ?_)
    subst hv27
    refine j_aload_n F rfl dX3_feed_30 ?_
    refine j_iload_n F rfl dX3_feed_31 ?_
    refine t_callV F hT (ct_X3_put l G KS x _ (w := c) (show 0 ≤ M 22 0 + 4 + 4 ∧ M 22 0 + 4 + 4 ≤ 396 by omega)) (by decide) (by decide) (lw_V q1864 q1866 qs95 q110 q1867) pd_X3_put rfl (Nat.le_of_ble_eq_true rfl) (Nat.le_refl _) (Nat.le_refl _) dX3_feed_32 (fun M32 h hv32 hT => ?_)
    subst hv32
    refine j_aload_n F rfl dX3_feed_35 ?_
    refine j_iload F rfl dX3_feed_36 ?_
    refine t_callV F hT (ct_X3_put l G KS x _ (w := d) (show 0 ≤ M 22 0 + 4 + 4 + 4 ∧ M 22 0 + 4 + 4 + 4 ≤ 396 by omega)) (by decide) (by decide) (lw_V q1864 q1866 qs95 q110 q1867) pd_X3_put rfl (Nat.le_of_ble_eq_true rfl) (Nat.le_refl _) (Nat.le_refl _) dX3_feed_38 (fun M38 h hv38 hT => ?_)
    subst hv38
    refine j_aload_n F rfl dX3_feed_41 ?_
    refine j_iload F rfl dX3_feed_42 ?_
    refine t_callV F hT (ct_X3_put l G KS x _ (w := e) (show 0 ≤ M 22 0 + 4 + 4 + 4 + 4 ∧ M 22 0 + 4 + 4 + 4 + 4 ≤ 396 by omega)) (by decide) (by decide) (lw_V q1864 q1866 qs95 q110 q1867) pd_X3_put rfl (Nat.le_of_ble_eq_true rfl) (Nat.le_refl _) (Nat.le_refl _) dX3_feed_44 (fun M44 h hv44 hT => ?_)
    subst hv44
    refine j_aload_n F rfl dX3_feed_47 ?_
    refine t_get F hT 22 (by decide) (v := vI (M 22 0 + 4 + 4 + 4 + 4 + 4)) rfl q1508 dX3_feed_48 ?_
    exact j_iret F E (Nat.zero_le _) (Nat.zero_le _) dX3_feed_51 (ti_post hT ⟨rfl, rfl, rfl, rfl, rfl, fun q => absurd q (by omega), fun _ => ⟨by omega, by show M 22 0 + 4 + 4 + 4 + 4 + 4 = _; omega, rfl⟩⟩)
  · skip
    refine j_iconst F dX3_feed_18 ?_
    exact j_iret F E (Nat.zero_le _) (Nat.zero_le _) dX3_feed_19 (ti_post hT ⟨rfl, rfl, rfl, rfl, rfl, fun _ => ⟨rfl, rfl, rfl⟩, fun q => absurd (by omega) q⟩)

theorem pd_X3_end : yX3_end.cls = RX3 ∧ yX3_end.cls ≠ "java/lang/invoke/MethodHandle" ∧ yX3_end.cls ≠ "java/lang/invoke/VarHandle" ∧ (parseMethodDescriptor yX3_end.desc).map (fun d => d.parameters.length) = some 1 := by decide +kernel
theorem ct_X3_end (l : Launch) (G : Gt) (KS : Ks l G) (x : Nat) (M : Mt) {a : Int} (ha : rg a) (ht : 0 ≤ M 22 0 ∧ M 22 0 ≤ 400) : TI l G yX3_end cX3_end 2 (some FieldType.boolean) 2 x [vI a] M (fun v M' => M' 0 0 = 0 ∧ M' 1 = M 1 ∧ M' 3 = M 3 ∧ M' 4 = M 4 ∧ M' 21 = M 21 ∧ M' 25 0 = M 25 0 ∧ (¬ (0 ≤ a ∧ a ≤ M 22 0) → v = 0 ∧ M' 22 0 = M 22 0) ∧ (0 ≤ a ∧ a ≤ M 22 0 → v = 1 ∧ M' 22 0 = a)) := by
  intro h0 h hT
  refine ct_of KS (by decide) (Nat.le_of_ble_eq_true rfl) (fun X F E => ?_)
  refine j_lv (lv' := [(0, .ref x), (1, vI a)]) ⟨rfl, rfl, trivial⟩ ?_
  have ha' := ha
  unfold rg at ha
  refine j_aload_n F rfl dX3_end_0 ?_
  refine j_iconst F dX3_end_1 ?_
  refine t_put F hT 0 (by decide) rfl rfl rfl (by decide) q1486 dX3_end_2 (fun h hT => ?_)
  refine j_iload_n F rfl dX3_end_5 ?_
  refine j_iconst F dX3_end_6 ?_
  refine j_aload_n F rfl dX3_end_7 ?_
  refine t_get F hT 22 (by decide) (v := vI (M 22 0)) rfl q1508 dX3_end_8 ?_
  refine s_callI F (ct_X3_isIn l G KS ha' (b := 0) (c := M 22 0) (by unfold rg; omega) (by unfold rg; omega)) (by decide) (by decide) (lw_S q1598 q1599 q110 q1600) pd_X3_isIn rfl (Nat.le_of_ble_eq_true rfl) (Nat.le_refl _) (Nat.le_refl _) dX3_end_11 (fun v11 hv11 => ?_)
  have z11 := z01 hv11
  refine j_if_ne F 19 (by decide) (by omega) dX3_end_14 (fun c14 => ?_) (fun c14 => ?_)
  · skip
    refine j_aload_n F rfl dX3_end_19 ?_
    refine j_iload_n F rfl dX3_end_20 ?_
    refine t_put F hT 22 (by decide) rfl rfl rfl (by decide) q1508 dX3_end_21 (fun h hT => ?_)
    refine j_iconst F dX3_end_24 ?_
    exact j_zret F E (by omega) (Nat.zero_le _) (Nat.zero_le _) dX3_end_25 (ti_post hT ⟨rfl, rfl, rfl, rfl, rfl, rfl, fun q => absurd (by split at hv11 <;> omega) q, fun _ => ⟨rfl, rfl⟩⟩)
  · skip
    refine j_iconst F dX3_end_17 ?_
    exact j_zret F E (by omega) (Nat.zero_le _) (Nat.zero_le _) dX3_end_18 (ti_post hT ⟨rfl, rfl, rfl, rfl, rfl, rfl, fun _ => ⟨rfl, rfl⟩, fun q => absurd q (by split at hv11 <;> omega)⟩)

theorem pd_X3_startsText : yX3_startsText.cls = RX3 ∧ yX3_startsText.cls ≠ "java/lang/invoke/MethodHandle" ∧ yX3_startsText.cls ≠ "java/lang/invoke/VarHandle" ∧ (parseMethodDescriptor yX3_startsText.desc).map (fun d => d.parameters.length) = some 0 := by decide +kernel
theorem ct_X3_startsText (l : Launch) (G : Gt) (KS : Ks l G) (x : Nat) (M : Mt) : TV l G yX3_startsText cX3_startsText 1 1 x [] M (fun M' => M' = oM (oM (oM (oM M 23 0 (M 22 0)) 22 0 0) 24 0 0) 25 0 0) := by
  intro h0 h hT
  refine ct_of KS (by decide) (Nat.le_of_ble_eq_true rfl) (fun X F E => ?_)
  refine j_lv (lv' := [(0, .ref x)]) ⟨rfl, trivial⟩ ?_
  refine j_aload_n F rfl dX3_startsText_0 ?_
  refine j_aload_n F rfl dX3_startsText_1 ?_
  refine t_get F hT 22 (by decide) rfl q1508 dX3_startsText_2 ?_
  refine t_put F hT 23 (by decide) rfl rfl rfl (by decide) q1509 dX3_startsText_5 (fun h hT => ?_)
  refine j_aload_n F rfl dX3_startsText_8 ?_
  refine j_iconst F dX3_startsText_9 ?_
  refine t_put F hT 22 (by decide) rfl rfl rfl (by decide) q1508 dX3_startsText_10 (fun h hT => ?_)
  refine j_aload_n F rfl dX3_startsText_13 ?_
  refine j_iconst F dX3_startsText_14 ?_
  refine t_put F hT 24 (by decide) rfl rfl rfl (by decide) q1510 dX3_startsText_15 (fun h hT => ?_)
  refine j_aload_n F rfl dX3_startsText_18 ?_
  refine j_iconst F dX3_startsText_19 ?_
  refine t_put F hT 25 (by decide) rfl rfl rfl (by decide) q1511 dX3_startsText_20 (fun h hT => ?_)
  exact j_vret F E (Nat.zero_le _) (Nat.zero_le _) dX3_startsText_23 (tv_post hT rfl)

theorem pd_X3_here : yX3_here.cls = RX3 ∧ yX3_here.cls ≠ "java/lang/invoke/MethodHandle" ∧ yX3_here.cls ≠ "java/lang/invoke/VarHandle" ∧ (parseMethodDescriptor yX3_here.desc).map (fun d => d.parameters.length) = some 0 := by decide +kernel
theorem ct_X3_here (l : Launch) (G : Gt) (KS : Ks l G) (x : Nat) (M : Mt) (hX : TX M) : TI l G yX3_here cX3_here 1 (some FieldType.int) 1 x [] M (fun v M' => v = hr M ∧ M' = hrM M) := by
  intro h0 h hT
  refine ct_of KS (by decide) (Nat.le_of_ble_eq_true rfl) (fun X F E => ?_)
  refine j_lv (lv' := [(0, .ref x)]) ⟨rfl, trivial⟩ ?_
  obtain ⟨hX1, hX2, hX3, hX4, hX5, hX6⟩ := hX
  have L0 : ∀ (m0 : Nat) (p : Int) (N : Mt) (h : Hp), (0 ≤ p ∧ p ≤ 1000 ∧ sk (M 21) (M 23 0) p = sk (M 21) (M 23 0) (M 24 0) ∧ N = oM M 24 0 p) → (M 23 0 - p).toNat < m0 → Tw G x N h0 h → J X h 0 [(0, .ref x)] [] 0 0 := by
    intro m0
    induction m0 with
    | zero => intro p N h hI hm0 hT; exact absurd hm0 (Nat.not_lt_zero _)
    | succ m0 ih0 =>
      intro p N h hI hm0 hT
      obtain ⟨hI0, hI1, hI2, hI3⟩ := hI
      subst hI3
      refine j_aload_n F rfl dX3_here_0 ?_
      refine t_get F hT 24 (by decide) (v := vI p) rfl q1510 dX3_here_1 ?_
      refine j_aload_n F rfl dX3_here_4 ?_
      refine t_get F hT 23 (by decide) (v := vI (M 23 0)) rfl q1509 dX3_here_5 ?_
      refine j_icmp_ge F 52 (by decide) (by omega) (by omega) dX3_here_8 (fun c8 => ?_) (fun c8 => ?_)
      · skip
        have hex : sk (M 21) (M 23 0) p = p := sk_out (by omega)
        refine j_aload_n F rfl dX3_here_52 ?_
        refine t_get F hT 24 (by decide) (v := vI p) rfl q1510 dX3_here_53 ?_
        refine j_aload_n F rfl dX3_here_56 ?_
        refine t_get F hT 23 (by decide) (v := vI (M 23 0)) rfl q1509 dX3_here_57 ?_
        refine j_icmp_ge F 79 (by decide) (by omega) (by omega) dX3_here_60 (fun c60 => ?_) (fun c60 => ?_)
        · skip
          refine j_iconst F dX3_here_79 ?_
          exact j_iret F E (Nat.zero_le _) (Nat.zero_le _) dX3_here_80 (ti_post hT ⟨by unfold hr hrv; rw [← hI2, hex]; first | (exfalso; omega) | rw [if_pos (by omega)] | rw [if_neg (by omega)], by unfold hrM; rw [← hI2, hex]⟩)
        · skip
          refine j_aload_n F rfl dX3_here_63 ?_
          refine t_get F hT 21 (by decide) rfl q1507 dX3_here_64 ?_
          refine j_aload_n F rfl dX3_here_67 ?_
          refine t_get F hT 24 (by decide) (v := vI p) rfl q1510 dX3_here_68 ?_
          refine t_baldw F hT 21 tm_21 (M 21 p) rfl (by omega) dX3_here_71 ?_
          refine j_sipush F (by decide) dX3_here_72 ?_
          refine j_iand F _ (and9_e _ _) dX3_here_75 ?_
          refine j_goto F 80 (by decide) dX3_here_76 ?_
          exact j_iret F E (Nat.zero_le _) (Nat.zero_le _) dX3_here_80 (ti_post hT ⟨by unfold hr hrv; rw [← hI2, hex]; first | (exfalso; omega) | rw [if_pos (by omega)] | rw [if_neg (by omega)], by unfold hrM; rw [← hI2, hex]⟩)
      · skip
        have h21 := hX1 p hI0 (by omega)
        refine j_aload_n F rfl dX3_here_11 ?_
        refine t_get F hT 21 (by decide) rfl q1507 dX3_here_12 ?_
        refine j_aload_n F rfl dX3_here_15 ?_
        refine t_get F hT 24 (by decide) (v := vI p) rfl q1510 dX3_here_16 ?_
        refine t_baldw F hT 21 tm_21 (M 21 p) rfl (by omega) dX3_here_19 ?_
        refine j_bipush F (by decide) dX3_here_20 ?_
        refine j_icmp_eq F 39 (by decide) (by omega) (by omega) dX3_here_22 (fun c22 => ?_) (fun c22 => ?_)
        · skip
          refine j_aload_n F rfl dX3_here_39 ?_
          refine j_dup F rfl dX3_here_40 ?_
          refine t_get F hT 24 (by decide) (v := vI p) rfl q1510 dX3_here_41 ?_
          refine j_iconst F dX3_here_44 ?_
          refine j_iadd F dX3_here_45 ?_
          refine t_put F hT 24 (by decide) rfl rfl rfl (by decide) q1510 dX3_here_46 (fun h hT => ?_)
          refine j_goto F 0 (by decide) dX3_here_49 ?_
          refine j_lv (lv' := [(0, .ref x)]) ⟨rfl, trivial⟩ ?_
          exact ih0 (p + 1) _ _ ⟨by omega, by omega, by rw [← hI2]; exact (sk_in ⟨by omega, by omega⟩).symm, oM_oM M 24 0 p (p + 1)⟩ (by omega) hT
        · skip
          refine j_aload_n F rfl dX3_here_25 ?_
          refine t_get F hT 21 (by decide) rfl q1507 dX3_here_26 ?_
          refine j_aload_n F rfl dX3_here_29 ?_
          refine t_get F hT 24 (by decide) (v := vI p) rfl q1510 dX3_here_30 ?_
          refine t_baldw F hT 21 tm_21 (M 21 p) rfl (by omega) dX3_here_33 ?_
          refine j_bipush F (by decide) dX3_here_34 ?_
          refine j_icmp_ne F 52 (by decide) (by omega) (by omega) dX3_here_36 (fun c36 => ?_) (fun c36 => ?_)
          · skip
            have hex : sk (M 21) (M 23 0) p = p := sk_out (by omega)
            refine j_aload_n F rfl dX3_here_52 ?_
            refine t_get F hT 24 (by decide) (v := vI p) rfl q1510 dX3_here_53 ?_
            refine j_aload_n F rfl dX3_here_56 ?_
            refine t_get F hT 23 (by decide) (v := vI (M 23 0)) rfl q1509 dX3_here_57 ?_
            refine j_icmp_ge F 79 (by decide) (by omega) (by omega) dX3_here_60 (fun c60 => ?_) (fun c60 => ?_)
            · skip
              refine j_iconst F dX3_here_79 ?_
              exact j_iret F E (Nat.zero_le _) (Nat.zero_le _) dX3_here_80 (ti_post hT ⟨by unfold hr hrv; rw [← hI2, hex]; first | (exfalso; omega) | rw [if_pos (by omega)] | rw [if_neg (by omega)], by unfold hrM; rw [← hI2, hex]⟩)
            · skip
              refine j_aload_n F rfl dX3_here_63 ?_
              refine t_get F hT 21 (by decide) rfl q1507 dX3_here_64 ?_
              refine j_aload_n F rfl dX3_here_67 ?_
              refine t_get F hT 24 (by decide) (v := vI p) rfl q1510 dX3_here_68 ?_
              refine t_baldw F hT 21 tm_21 (M 21 p) rfl (by omega) dX3_here_71 ?_
              refine j_sipush F (by decide) dX3_here_72 ?_
              refine j_iand F _ (and9_e _ _) dX3_here_75 ?_
              refine j_goto F 80 (by decide) dX3_here_76 ?_
              exact j_iret F E (Nat.zero_le _) (Nat.zero_le _) dX3_here_80 (ti_post hT ⟨by unfold hr hrv; rw [← hI2, hex]; first | (exfalso; omega) | rw [if_pos (by omega)] | rw [if_neg (by omega)], by unfold hrM; rw [← hI2, hex]⟩)
          · skip
            refine j_aload_n F rfl dX3_here_39 ?_
            refine j_dup F rfl dX3_here_40 ?_
            refine t_get F hT 24 (by decide) (v := vI p) rfl q1510 dX3_here_41 ?_
            refine j_iconst F dX3_here_44 ?_
            refine j_iadd F dX3_here_45 ?_
            refine t_put F hT 24 (by decide) rfl rfl rfl (by decide) q1510 dX3_here_46 (fun h hT => ?_)
            refine j_goto F 0 (by decide) dX3_here_49 ?_
            refine j_lv (lv' := [(0, .ref x)]) ⟨rfl, trivial⟩ ?_
            exact ih0 (p + 1) _ _ ⟨by omega, by omega, by rw [← hI2]; exact (sk_in ⟨by omega, by omega⟩).symm, oM_oM M 24 0 p (p + 1)⟩ (by omega) hT
  refine j_lv (lv' := [(0, .ref x)]) ⟨rfl, trivial⟩ ?_
  exact L0 _ (M 24 0) _ _ ⟨by omega, by omega, rfl, (oM_id M 24 0).symm⟩ (Nat.lt_succ_self _) hT

theorem pd_X3_fails : yX3_fails.cls = RX3 ∧ yX3_fails.cls ≠ "java/lang/invoke/MethodHandle" ∧ yX3_fails.cls ≠ "java/lang/invoke/VarHandle" ∧ (parseMethodDescriptor yX3_fails.desc).map (fun d => d.parameters.length) = some 2 := by decide +kernel
theorem ct_X3_fails (l : Launch) (G : Gt) (KS : Ks l G) (x : Nat) (M : Mt) {k w : Int} (hf : rg (M 25 0)) : TV l G yX3_fails cX3_fails 3 1 x [vI k, vI w] M (fun M' => M' = flM M k w) := by
  intro h0 h hT
  refine ct_of KS (by decide) (Nat.le_of_ble_eq_true rfl) (fun X F E => ?_)
  refine j_lv (lv' := [(0, .ref x), (1, vI k), (2, vI w)]) ⟨rfl, rfl, rfl, trivial⟩ ?_
  unfold rg at hf
  refine j_aload_n F rfl dX3_fails_0 ?_
  refine t_get F hT 25 (by decide) rfl q1511 dX3_fails_1 ?_
  refine j_if_ne F 17 (by decide) (by omega) dX3_fails_4 (fun c4 => ?_) (fun c4 => ?_)
  · skip
    exact j_vret F E (Nat.zero_le _) (Nat.zero_le _) dX3_fails_17 (tv_post hT (by unfold flM; first | rw [if_pos c4] | rw [if_neg c4]))
  · skip
    refine j_aload_n F rfl dX3_fails_7 ?_
    refine j_iload_n F rfl dX3_fails_8 ?_
    refine j_bipush F (by decide) dX3_fails_9 ?_
    refine j_iload_n F rfl dX3_fails_11 ?_
    refine j_imul F dX3_fails_12 ?_
    refine j_iadd F dX3_fails_13 ?_
    refine t_put F hT 25 (by decide) rfl rfl rfl (by decide) q1511 dX3_fails_14 (fun h hT => ?_)
    exact j_vret F E (Nat.zero_le _) (Nat.zero_le _) dX3_fails_17 (tv_post hT (by unfold flM; first | rw [if_pos c4] | rw [if_neg c4]))

theorem pd_X3_isDigit : yX3_isDigit.cls = RX3 ∧ yX3_isDigit.cls ≠ "java/lang/invoke/MethodHandle" ∧ yX3_isDigit.cls ≠ "java/lang/invoke/VarHandle" ∧ (parseMethodDescriptor yX3_isDigit.desc).map (fun d => d.parameters.length) = some 0 := by decide +kernel
theorem ct_X3_isDigit (l : Launch) (G : Gt) (KS : Ks l G) (x : Nat) (M : Mt) (hX : TX M) : TI l G yX3_isDigit cX3_isDigit 1 (some FieldType.boolean) 2 x [] M (fun v M' => (v = if 48 ≤ hr M ∧ hr M ≤ 57 then 1 else 0) ∧ M' = hrM M) := by
  intro h0 h hT
  refine ct_of KS (by decide) (Nat.le_of_ble_eq_true rfl) (fun X F E => ?_)
  refine j_lv (lv' := [(0, .ref x)]) ⟨rfl, trivial⟩ ?_
  refine j_aload_n F rfl dX3_isDigit_0 ?_
  refine t_callI F hT (ct_X3_here l G KS x M hX) (by decide) (by decide) (lw_V q1820 q1822 qs88 q110 q1823) pd_X3_here rfl (Nat.le_of_ble_eq_true rfl) (Nat.le_refl _) (Nat.le_refl _) dX3_isDigit_1 (fun v1 M1 h hv1 hT => ?_)
  obtain ⟨e1, hq1⟩ := hv1
  subst e1
  have hg := hrv_rg (M 21) (M 23 0) (M 24 0)
  refine j_bipush F (by decide) dX3_isDigit_4 ?_
  refine j_bipush F (by decide) dX3_isDigit_6 ?_
  refine s_callI F (ct_X3_isIn l G KS (a := hr M) (b := 48) (c := 57) (by unfold rg hr; omega) (by unfold rg; omega) (by unfold rg; omega)) (by decide) (by decide) (lw_S q1598 q1599 q110 q1600) pd_X3_isIn rfl (Nat.le_of_ble_eq_true rfl) (Nat.le_refl _) (Nat.le_refl _) dX3_isDigit_8 (fun v8 hv8 => ?_)
  exact j_zret F E (z01 hv8) (Nat.zero_le _) (Nat.zero_le _) dX3_isDigit_11 (ti_post hT ⟨hv8, hq1⟩)
