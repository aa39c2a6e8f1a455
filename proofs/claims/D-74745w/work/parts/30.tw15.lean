def TL (l : Launch) (G : Gt) (y : MethodName) (cc : ByteArray) (nL : Nat) (L : Nat) (x : Nat) (As : List Value) (M : Mt) (P : Int64 → Mt → Prop) : Prop := ∀ h0 h : Hp, Tw G x M h0 h → Ct l G y cc nL (some .long) L (40 * L) 0 0 (.ref x :: As) h (pL (fun v h' => ∃ M' : Mt, P v M' ∧ Tw G x M' h0 h'))
theorem tl_post {G : Gt} {x : Nat} {h0 h : Hp} {M' : Mt} (hT : Tw G x M' h0 h) {v : Int64} {P : Int64 → Mt → Prop} (hp : P v M') : pL (fun v h' => ∃ M' : Mt, P v M' ∧ Tw G x M' h0 h') (some (.long v)) h := ⟨v, rfl, M', hp, hT⟩
section JTL
variable {l : Launch} {G : Gt} {X : Cx} {y : MethodName} {cc : ByteArray} {nL : Nat} {ret : Option FieldType} {L mc ms : Nat} {h h0 : Hp} {pc : Nat} {lv : List (Nat × Value)} {st : List Value} {k n : Nat} {x : Nat} {M : Mt}
variable {y2 : MethodName} {cc2 : ByteArray} {nL2 : Nat} {L2 : Nat} {As rest : List Value} {idx : Nat}
theorem t_callL (F : Fx l G X y cc nL ret L (40 * L) mc ms) (hT : Tw G x M h0 h) {P : Int64 → Mt → Prop} (hM : TL l G y2 cc2 nL2 L2 x As M P) (hL : L2 + 1 ≤ L) (hn2 : nL2 ≤ 21) (hG : GoodIn lw_all (wsV y.cls idx RX3 y2 (ws_ y2 cc2 nL2 (some .long)))) (hd : y2.cls = RX3 ∧ y2.cls ≠ "java/lang/invoke/MethodHandle" ∧ y2.cls ≠ "java/lang/invoke/VarHandle" ∧ (parseMethodDescriptor y2.desc).map (fun d => d.parameters.length) = some As.length) (hst : st = As.reverse ++ .ref x :: rest) (hrs : (rest.map fun v => v.category).sum ≤ 8) (hk : k ≤ mc) (hn : n ≤ ms) (d : decode cc pc = .ok (.invokevirtual idx, 3))
    (K : ∀ (v : Int64) (M' : Mt) (h' : Hp), P v M' → Tw G x M' h0 h' → J X h' (pc + 3) lv (.long v :: rest) k n) : J X h pc lv st k n :=
  j_callV F (hM h0 h hT) hG hd (room_ok hL hn2) rfl hT.1 hst hrs hk hn d (r_l (fun v h' hp => by obtain ⟨M', hp, hT'⟩ := hp; exact K v M' h' hp hT'))
end JTL
/-- letters are passed over -/
def ltF (T : Int → Int) (n : Int) : Nat → Int → Int
  | 0, p => p
  | f + 1, p => if p < n ∧ 97 ≤ T p ∧ T p ≤ 122 then ltF T n f (p + 1) else p
def lt9 (T : Int → Int) (n p : Int) : Int := ltF T n (n - p).toNat p
theorem lt9_in {T : Int → Int} {n p : Int} (h : p < n ∧ 97 ≤ T p ∧ T p ≤ 122) : lt9 T n p = lt9 T n (p + 1) := by
  unfold lt9
  rw [show (n - p).toNat = (n - (p + 1)).toNat + 1 by omega, ltF, if_pos h]
theorem lt9_out {T : Int → Int} {n p : Int} (h : ¬ (p < n ∧ 97 ≤ T p ∧ T p ≤ 122)) : lt9 T n p = p := by
  unfold lt9
  cases (n - p).toNat with
  | zero => rfl
  | succ f => rw [ltF, if_neg h]
/-- a word's number -/
def wdF (T : Int → Int) (p : Int) : Nat → Int64
  | 0 => 0
  | i + 1 => if (i : Int) < 7 then 27 * wdF T p i + (Int32.ofInt (T (p + i))).toInt64 - 96 else 0
theorem wdF_s {T : Int → Int} {p i : Int} (hi : 0 ≤ i) : wdF T p (i + 1).toNat = if i < 7 then 27 * wdF T p i.toNat + (Int32.ofInt (T (p + i))).toInt64 - 96 else 0 := by
  have e : (i + 1).toNat = i.toNat + 1 := by omega
  rw [e, wdF, Int.toNat_of_nonneg hi]
def woE (M : Mt) : Int := lt9 (M 21) (M 23 0) (nuB M)
def woV (M : Mt) : Int64 := wdF (M 21) (nuB M) (woE M - nuB M).toNat
/-- grow's statement -/
def grM (M : Mt) (a : Int) : Mt := if a < 1 ∨ 30 - M 1 0 < a then M else oM M 1 0 (M 1 0 + a)
theorem pd_X3_word : yX3_word.cls = RX3 ∧ yX3_word.cls ≠ "java/lang/invoke/MethodHandle" ∧ yX3_word.cls ≠ "java/lang/invoke/VarHandle" ∧ (parseMethodDescriptor yX3_word.desc).map (fun d => d.parameters.length) = some 0 := by decide +kernel
theorem ct_X3_word (l : Launch) (G : Gt) (KS : Ks l G) (x : Nat) (M : Mt) (hX : TX M) : TL l G yX3_word cX3_word 4 2 x [] M (fun v M' => v = woV M ∧ M' = oM M 24 0 (woE M)) := by
  intro h0 h hT
  refine ct_of KS (by decide) (Nat.le_of_ble_eq_true rfl) (fun X F E => ?_)
  refine j_lv (lv' := [(0, .ref x)]) ⟨rfl, trivial⟩ ?_
  have hX' := hX
  obtain ⟨hX1, hX2, hX3, hX4, hX5, hX6⟩ := hX
  have hB : 0 ≤ nuB M ∧ nuB M ≤ 1000 := hX'.hr.2.2.2.1
  refine j_aload_n F rfl dX3_word_0 ?_
  refine t_callI F hT (ct_X3_here l G KS x M hX') (by decide) (by decide) (lw_V q1820 q1822 qs88 q110 q1823) pd_X3_here rfl (Nat.le_of_ble_eq_true rfl) (Nat.le_refl _) (Nat.le_refl _) dX3_word_1 (fun v1 M1 h hv1 hT => ?_)
  obtain ⟨e1, e2⟩ := hv1
  subst e1 e2
  refine j_pop F rfl dX3_word_4 ?_
  refine j_aload_n F rfl dX3_word_5 ?_
  refine t_get F hT 24 (by decide) (v := vI (nuB M)) rfl q1510 dX3_word_6 ?_
  refine j_istore_n F (by decide) dX3_word_9 ?_
  refine j_lconst F rfl dX3_word_10 ?_
  refine j_lstore_n F (by decide) dX3_word_11 ?_
  have L12 : ∀ (m12 : Nat) (z : Int64) (e : Int) (N : Mt) (h : Hp), (nuB M ≤ e ∧ e ≤ 1000 ∧ z = wdF (M 21) (nuB M) (e - nuB M).toNat ∧ lt9 (M 21) (M 23 0) e = woE M ∧ N = oM M 24 0 e) → (M 23 0 - e).toNat < m12 → Tw G x N h0 h → J X h 12 [(0, .ref x), (1, vI (nuB M)), (2, .long z)] [] 0 0 := by
    intro m12
    induction m12 with
    | zero => intro z e N h hI hm12 hT; exact absurd hm12 (Nat.not_lt_zero _)
    | succ m12 ih12 =>
      intro z e N h hI hm12 hT
      obtain ⟨hI0, hI1, hI2, hI3, hI6⟩ := hI
      subst hI6
      refine j_aload_n F rfl dX3_word_12 ?_
      refine t_get F hT 24 (by decide) (v := vI e) rfl q1510 dX3_word_13 ?_
      refine j_aload_n F rfl dX3_word_16 ?_
      refine t_get F hT 23 (by decide) (v := vI (M 23 0)) rfl q1509 dX3_word_17 ?_
      refine j_icmp_ge F 91 (by decide) (by omega) (by omega) dX3_word_20 (fun c20 => ?_) (fun c20 => ?_)
      · skip
        have hex : woE M = e := by rw [← hI3]; exact lt9_out (by omega)
        refine j_lload_n F rfl dX3_word_91 ?_
        exact j_lret F E (Nat.zero_le _) (Nat.zero_le _) dX3_word_92 (tl_post hT ⟨by unfold woV; rw [hex]; exact hI2, by rw [hex]⟩)
      · skip
        have h21 := hX1 e (by omega) (by omega)
        refine j_aload_n F rfl dX3_word_23 ?_
        refine t_get F hT 21 (by decide) rfl q1507 dX3_word_24 ?_
        refine j_aload_n F rfl dX3_word_27 ?_
        refine t_get F hT 24 (by decide) (v := vI e) rfl q1510 dX3_word_28 ?_
        refine t_baldw F hT 21 tm_21 (M 21 e) rfl (by omega) dX3_word_31 ?_
        refine j_bipush F (by decide) dX3_word_32 ?_
        refine j_bipush F (by decide) dX3_word_34 ?_
        refine s_callI F (ct_X3_isIn l G KS (a := M 21 e) (b := 97) (c := 122) (by unfold rg; omega) (by unfold rg; omega) (by unfold rg; omega)) (by decide) (by decide) (lw_S q1598 q1599 q110 q1600) pd_X3_isIn rfl (Nat.le_of_ble_eq_true rfl) (Nat.le_refl _) (Nat.le_refl _) dX3_word_36 (fun v36 hv36 => ?_)
        have z36 := z01 hv36
        refine j_if_eq F 91 (by decide) (by omega) dX3_word_39 (fun c39 => ?_) (fun c39 => ?_)
        · skip
          have hex : woE M = e := by rw [← hI3]; exact lt9_out (by split at hv36 <;> omega)
          refine j_lload_n F rfl dX3_word_91 ?_
          exact j_lret F E (Nat.zero_le _) (Nat.zero_le _) dX3_word_92 (tl_post hT ⟨by unfold woV; rw [hex]; exact hI2, by rw [hex]⟩)
        · skip
          have hdd : 97 ≤ M 21 e ∧ M 21 e ≤ 122 := by split at hv36 <;> omega
          have hnx := wdF_s (T := M 21) (p := nuB M) (i := e - nuB M) (by omega)
          rw [show e - nuB M + 1 = e + 1 - nuB M by omega, ← hI2, show nuB M + (e - nuB M) = e by omega] at hnx
          refine j_aload_n F rfl dX3_word_42 ?_
          refine t_get F hT 24 (by decide) (v := vI e) rfl q1510 dX3_word_43 ?_
          refine j_iload_n F rfl dX3_word_46 ?_
          refine j_isub F dX3_word_47 ?_
          refine j_bipush F (by decide) dX3_word_48 ?_
          refine j_icmp_ge F 76 (by decide) (by omega) (by omega) dX3_word_50 (fun c50 => ?_) (fun c50 => ?_)
          · skip
            rw [if_neg (by omega)] at hnx
            have hvn := hnx.symm
            refine j_lconst F rfl dX3_word_76 ?_
            refine j_lstore_n F (by decide) dX3_word_77 ?_
            refine j_aload_n F rfl dX3_word_78 ?_
            refine j_dup F rfl dX3_word_79 ?_
            refine t_get F hT 24 (by decide) (v := vI e) rfl q1510 dX3_word_80 ?_
            refine j_iconst F dX3_word_83 ?_
            refine j_iadd F dX3_word_84 ?_
            refine t_put F hT 24 (by decide) rfl rfl rfl (by decide) q1510 dX3_word_85 (fun h hT => ?_)
            refine j_goto F 12 (by decide) dX3_word_88 ?_
            refine j_lv (lv' := [(0, .ref x), (1, vI (nuB M)), (2, .long 0)]) ⟨rfl, rfl, rfl, trivial⟩ ?_
            exact ih12 0 (e + 1) _ _ ⟨by omega, by omega, hvn, by rw [← hI3]; exact (lt9_in ⟨by omega, by omega, by omega⟩).symm, oM_oM M 24 0 _ _⟩ (by omega) hT
          · skip
            rw [if_pos (by omega)] at hnx
            have hvn := hnx.symm
            refine j_ldc2 F q1896 dX3_word_53 ?_
            refine j_lload_n F rfl dX3_word_56 ?_
            refine j_lmul F dX3_word_57 ?_
            refine j_aload_n F rfl dX3_word_58 ?_
            refine t_get F hT 21 (by decide) rfl q1507 dX3_word_59 ?_
            refine j_aload_n F rfl dX3_word_62 ?_
            refine t_get F hT 24 (by decide) (v := vI e) rfl q1510 dX3_word_63 ?_
            refine t_baldw F hT 21 tm_21 (M 21 e) rfl (by omega) dX3_word_66 ?_
            refine j_i2l F _ rfl dX3_word_67 ?_
            refine j_ladd F dX3_word_68 ?_
            refine j_ldc2 F q1897 dX3_word_69 ?_
            refine j_lsub F dX3_word_72 ?_
            refine j_goto F 77 (by decide) dX3_word_73 ?_
            refine j_lstore_n F (by decide) dX3_word_77 ?_
            refine j_aload_n F rfl dX3_word_78 ?_
            refine j_dup F rfl dX3_word_79 ?_
            refine t_get F hT 24 (by decide) (v := vI e) rfl q1510 dX3_word_80 ?_
            refine j_iconst F dX3_word_83 ?_
            refine j_iadd F dX3_word_84 ?_
            refine t_put F hT 24 (by decide) rfl rfl rfl (by decide) q1510 dX3_word_85 (fun h hT => ?_)
            refine j_goto F 12 (by decide) dX3_word_88 ?_
            refine j_lv (lv' := [(0, .ref x), (1, vI (nuB M)), (2, .long (27 * z + (Int32.ofInt (M 21 e)).toInt64 - 96))]) ⟨rfl, rfl, rfl, trivial⟩ ?_
            exact ih12 (27 * z + (Int32.ofInt (M 21 e)).toInt64 - 96) (e + 1) _ _ ⟨by omega, by omega, hvn, by rw [← hI3]; exact (lt9_in ⟨by omega, by omega, by omega⟩).symm, oM_oM M 24 0 _ _⟩ (by omega) hT
  refine j_lv (lv' := [(0, .ref x), (1, vI (nuB M)), (2, .long 0)]) ⟨rfl, rfl, rfl, trivial⟩ ?_
  exact L12 _ 0 (nuB M) _ _ ⟨by omega, by omega, by rw [show nuB M - nuB M = 0 by omega]; rfl, rfl, rfl⟩ (Nat.lt_succ_self _) hT
