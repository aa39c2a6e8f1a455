/-- a line's literals come, all as false -/
def ngN (M : Mt) (g : Int → Int) : Nat → Mt
  | 0 => M
  | i + 1 => cmM (ngN M g i) (-(g i)) (-1)
theorem iab_neg (a : Int) : iab (-a) = iab a := by unfold iab; (repeat' split) <;> omega
theorem sg9_neg {a : Int} (h : a ≠ 0) : sg9 (-a) = -(sg9 a) := by unfold sg9; (repeat' split) <;> omega
theorem lok_neg {V a : Int} (h : lok V a) : lok V (-a) := by unfold lok at *; omega
theorem trv_sg {s : Int → Int} {l : Int} (hl : l ≠ 0) (h : s (iab l) = -(sg9 l)) : trv s l < 0 := by
  rw [trv_iab hl, h]
  unfold sg9
  split <;> simp_all
theorem ng_o {M : Mt} {g : Int → Int} {n : Int} (hR : RI (M 1)) (hT : TR M) (h0 : T0 M) (h10 : M 10 0 = 0) (hz : ∀ v : Int, 1 ≤ v → v ≤ M 1 0 → M 5 v = 0) (hg : ∀ k : Int, 0 ≤ k → k < n → lok (M 1 0) (g k)) (hd : ∀ i j : Int, 0 ≤ i → i < n → 0 ≤ j → j < n → iab (g i) = iab (g j) → i = j) : ∀ i : Nat, (i : Int) ≤ n → T0 (ngN M g i) ∧ TR (ngN M g i) ∧ ngN M g i 10 0 = i ∧ (∀ q : Nat, q ≠ 5 → q ≠ 6 → q ≠ 7 → q ≠ 8 → q ≠ 9 → q ≠ 10 → ngN M g i q = M q) ∧ (∀ v : Int, 1 ≤ v → v ≤ M 1 0 → ngN M g i 5 v ≠ 0 → ∃ j : Int, 0 ≤ j ∧ j < i ∧ iab (g j) = v) ∧ (∀ j : Int, 0 ≤ j → j < i → trv (ngN M g i 5) (g j) < 0) ∧ (i < n → ngN M g i 10 0 < 30)
  | 0, hi => ⟨h0, hT, h10, fun _ _ _ _ _ _ _ => rfl, fun v v0 v1 hv => absurd (hz v v0 v1) hv, fun j j0 j1 => by omega, fun _ => by show M 10 0 < 30; omega⟩
  | i + 1, hi => by
    obtain ⟨a1, a2, a3, a4, a5, a6, a7⟩ := ng_o hR hT h0 h10 hz hg hd i (by omega)
    have hV := hR.V
    have hl := hg i (by omega) (by omega)
    have hii := iab_lok hl
    have e1 : ngN M g i 1 = M 1 := a4 1 (by decide) (by decide) (by decide) (by decide) (by decide) (by decide)
    have hs : ngN M g i 5 (iab (-(g i))) = 0 := by
      rw [iab_neg]
      by_cases q : ngN M g i 5 (iab (g i)) = 0
      · exact q
      · obtain ⟨j, j0, j1, j2⟩ := a5 _ hii.1 hii.2 q
        have := hd j i j0 (by omega) (by omega) (by omega) j2
        omega
    have hlt := a7 (by omega)
    have e5 : ngN M g (i + 1) 5 = oI (ngN M g i 5) (iab (g i)) (-(sg9 (g i))) := by
      rw [ngN, cm_5, iab_neg, sg9_neg hl.1]
    have hT1 : T0 (ngN M g (i + 1)) := a1.cm (-1) (by rw [e1]; exact hV.1) (by rw [e1]; exact lok_neg hl) hs
    have hR1 : TR (ngN M g (i + 1)) := a2.cm (lok_neg (lok_mono hl hV.2)) (by omega) (by omega)
    have e11 : ngN M g (i + 1) 1 = M 1 := e1
    refine ⟨hT1, hR1, ?_, fun q b c d e f k => ?_, fun v v0 v1 hv => ?_, fun j j0 j1 => ?_, fun hlt9 => ?_⟩
    · show ngN M g i 10 0 + 1 = _
      omega
    · rw [ngN, cm_q _ _ _ b c d e f k]
      exact a4 q b c d e f k
    · by_cases e : v = iab (g i)
      · exact ⟨i, by omega, by omega, e.symm⟩
      · rw [e5, oI_n _ _ e] at hv
        obtain ⟨j, j0, j1, j2⟩ := a5 v v0 v1 hv
        exact ⟨j, j0, by omega, j2⟩
    · rw [e5]
      by_cases e : j = i
      · rw [e]
        exact trv_sg hl.1 (by rw [oI_s])
      · have hj := hg j j0 (by omega)
        have hne : iab (g j) ≠ iab (g i) := fun q => e (hd j i j0 (by omega) (by omega) (by omega) q)
        have := a6 j j0 (by omega)
        rw [trv_iab hj.1] at this ⊢
        rw [oI_n _ _ hne]
        exact this
    · have hl2 := hg ((i : Int) + 1) (by omega) (by omega)
      have hi2 := iab_lok hl2
      have hz2 : ngN M g (i + 1) 5 (iab (g ((i : Int) + 1))) = 0 := by
        rw [e5]
        by_cases q : oI (ngN M g i 5) (iab (g i)) (-(sg9 (g i))) (iab (g ((i : Int) + 1))) = 0
        · exact q
        · exfalso
          by_cases e : iab (g ((i : Int) + 1)) = iab (g i)
          · have := hd _ _ (by omega) (by omega) (by omega) (by omega) e
            omega
          · rw [oI_n _ _ e] at q
            obtain ⟨j, j0, j1, j2⟩ := a5 _ hi2.1 hi2.2 q
            have := hd j _ j0 (by omega) (by omega) (by omega) j2
            omega
      have := hT1.lt (by rw [e11]; exact hV.1) hi2.1 (by rw [e11]; exact hi2.2) hz2
      rw [e11] at this
      omega
def RfG (M : Mt) (L K : Int) (g : Int → Int) (n : Int) : Prop := ∀ s : Int → Int, s3 s → (∀ j : Int, 0 ≤ j → j < n → trv s (g j) < 0) → ¬ clo M L K s
theorem clo_cg {M N : Mt} (h1 : N 1 = M 1) (h8 : N 18 = M 18) (h9 : N 19 = M 19) (L K : Int) (s : Int → Int) : clo N L K s ↔ clo M L K s := by
  unfold clo rdG rdN
  rw [h1, h8, h9]
theorem ng_exs {M : Mt} {s g : Int → Int} {n : Nat} (hs : s3 s) (hV : 0 ≤ M 1 0 ∧ M 1 0 ≤ 30) (hT : TR (ngN M g n)) (hg : ∀ k : Int, 0 ≤ k → k < n → lok (M 1 0) (g k)) (h5 : ∀ v : Int, 1 ≤ v → v ≤ M 1 0 → ngN M g n 5 v ≠ 0 → ∃ j : Int, 0 ≤ j ∧ j < n ∧ iab (g j) = v) (h6 : ∀ j : Int, 0 ≤ j → j < n → trv (ngN M g n 5) (g j) < 0) : exs (M 1 0) (ngN M g n 5) s ↔ ∀ j : Int, 0 ≤ j → j < n → trv s (g j) < 0 := by
  constructor
  · intro h j j0 j1
    exact exs_neg h (hg j j0 j1) (h6 j j0 j1)
  · intro h v v0 v1 hv
    obtain ⟨j, j0, j1, j2⟩ := h5 v v0 v1 hv
    have a := h j j0 j1
    have b := h6 j j0 j1
    have hl := hg j j0 j1
    rw [trv_iab hl.1, j2] at a b
    have c := hs v (by omega) (by omega)
    have d := hT.s v (by omega) (by omega)
    split at a <;> omega
theorem Rfd_G {M N : Mt} {g : Int → Int} {n : Nat} {L K : Int} (hV : 0 ≤ M 1 0 ∧ M 1 0 ≤ 30) (e1 : N 1 = M 1) (hT : TR (ngN N g n)) (hq : ∀ q : Nat, q ≠ 5 → q ≠ 6 → q ≠ 7 → q ≠ 8 → q ≠ 9 → q ≠ 10 → ngN N g n q = N q) (h8 : N 18 = M 18) (h9 : N 19 = M 19) (hg : ∀ k : Int, 0 ≤ k → k < n → lok (M 1 0) (g k)) (h5 : ∀ v : Int, 1 ≤ v → v ≤ N 1 0 → ngN N g n 5 v ≠ 0 → ∃ j : Int, 0 ≤ j ∧ j < n ∧ iab (g j) = v) (h6 : ∀ j : Int, 0 ≤ j → j < n → trv (ngN N g n 5) (g j) < 0) : Rfd (ngN N g n) L K (ngN N g n 5) ↔ RfG M L K g n := by
  have z1 : ngN N g n 1 = M 1 := (hq 1 (by decide) (by decide) (by decide) (by decide) (by decide) (by decide)).trans e1
  have z8 : ngN N g n 18 = M 18 := (hq 18 (by decide) (by decide) (by decide) (by decide) (by decide) (by decide)).trans h8
  have z9 : ngN N g n 19 = M 19 := (hq 19 (by decide) (by decide) (by decide) (by decide) (by decide) (by decide)).trans h9
  unfold Rfd RfG
  constructor
  · intro h s hs ha hc
    refine h s hs ?_ ((clo_cg z1 z8 z9 L K s).mpr hc)
    rw [z1, ← e1]
    exact (ng_exs hs (by rw [e1]; exact hV) hT (by rw [e1]; exact hg) h5 h6).mpr ha
  · intro h s hs he hc
    refine h s hs ?_ ((clo_cg z1 z8 z9 L K s).mp hc)
    rw [z1, ← e1] at he
    exact (ng_exs hs (by rw [e1]; exact hV) hT (by rw [e1]; exact hg) h5 h6).mp he
def lnG (M : Mt) (k : Int) : Int → Int := lit (M 1) (M 1 (925 + k))
noncomputable def pfV (M : Mt) : Int := lst (fun k => ¬ RfG M k 0 (lnG M k) (lnS (M 1) k)) (M 1 6)
theorem ln_ok {M : Mt} (hR : RI (M 1)) {k : Int} (k0 : 0 ≤ k) (k1 : k < M 1 6) : (0 ≤ lnS (M 1) k ∧ lnS (M 1) k ≤ 30) ∧ (0 < lnS (M 1) k → 0 ≤ M 1 (925 + k) ∧ M 1 (925 + k) < M 1 1) ∧ (∀ i : Int, 0 ≤ i → i < lnS (M 1) k → lok (M 1 0) (lnG M k i)) ∧ (∀ i j : Int, 0 ≤ i → i < lnS (M 1) k → 0 ≤ j → j < lnS (M 1) k → iab (lnG M k i) = iab (lnG M k j) → i = j) := by
  have h := hR.ln k0 k1
  unfold lnS lnG
  split
  · exact ⟨by omega, fun q => by omega, fun i i0 i1 => by omega, fun i j i0 i1 => by omega⟩
  · rename_i q
    have hc := hR.cl (c := M 1 (925 + k)) (by omega) (by omega)
    exact ⟨by omega, fun _ => by omega, hc.2.2.2.2, hR.2.2.2.2.2.2.2.2.2.2.2.2.2.2.2.1 _ (by omega) (by omega)⟩
theorem emp_0 {M : Mt} {v : Int} (h0 : 0 ≤ v) (h1 : v ≤ 30) : empM M 5 v = 0 := if_pos (by omega)
theorem emp_q {M : Mt} {q : Nat} (a : q ≠ 5) (b : q ≠ 10) (c : q ≠ 11) : empM M q = M q := by
  unfold empM
  rw [sM_n _ _ a, oM_n _ _ _ c, oM_n _ _ _ b]
theorem pd_X3_proof : yX3_proof.cls = RX3 ∧ yX3_proof.cls ≠ "java/lang/invoke/MethodHandle" ∧ yX3_proof.cls ≠ "java/lang/invoke/VarHandle" ∧ (parseMethodDescriptor yX3_proof.desc).map (fun d => d.parameters.length) = some 0 := by decide +kernel
theorem ct_X3_proof (l : Launch) (G : Gt) (KS : Ks l G) (x : Nat) (M : Mt) (hR : RI (M 1)) (hTR : TR M) : TI l G yX3_proof cX3_proof 3 (some FieldType.int) 5 x [] M (fun v M' => v = pfV M ∧ M' 0 0 = 0 ∧ (∀ q : Nat, q ≠ 0 → q ≠ 5 → q ≠ 6 → q ≠ 7 → q ≠ 8 → q ≠ 9 → q ≠ 10 → q ≠ 11 → M' q = M q) ∧ TR M') := by
  intro h0 h hT
  refine ct_of KS (by decide) (Nat.le_of_ble_eq_true rfl) (fun X F E => ?_)
  refine j_lv (lv' := [(0, .ref x)]) ⟨rfl, trivial⟩ ?_
  have hV := hR.V
  have hmy := hR.many
  have hln := hR.lines
  have hrf := hR.ref
  refine j_aload_n F rfl dX3_proof_0 ?_
  refine j_iconst F dX3_proof_1 ?_
  refine t_put F hT 0 (by decide) rfl rfl rfl (by decide) q1486 dX3_proof_2 (fun h hT => ?_)
  refine j_iconst F dX3_proof_5 ?_
  refine j_istore_n F (by decide) dX3_proof_6 ?_
  have L7 : ∀ (m7 : Nat) (k : Int) (N : Mt) (h : Hp), (0 ≤ k ∧ k ≤ M 1 6 ∧ (∀ d : Int, 0 ≤ d → d < k → RfG M d 0 (lnG M d) (lnS (M 1) d)) ∧ N 0 0 = 0 ∧ (∀ q : Nat, q ≠ 0 → q ≠ 5 → q ≠ 6 → q ≠ 7 → q ≠ 8 → q ≠ 9 → q ≠ 10 → q ≠ 11 → N q = M q) ∧ TR N) → (M 1 6 - k).toNat < m7 → Tw G x N h0 h → J X h 7 [(0, .ref x), (1, vI k)] [] 0 0 := by
    intro m7
    induction m7 with
    | zero => intro k N h hI hm7 hT; exact absurd hm7 (Nat.not_lt_zero _)
    | succ m7 ih7 =>
      intro k N h hI hm7 hT
      obtain ⟨hI0, hI1, hI2, hI3, hI4, hI5⟩ := hI
      have e1 : N 1 = M 1 := hI4 1 (by decide) (by decide) (by decide) (by decide) (by decide) (by decide) (by decide) (by decide)
      have e18 : N 18 = M 18 := hI4 18 (by decide) (by decide) (by decide) (by decide) (by decide) (by decide) (by decide) (by decide)
      have e19 : N 19 = M 19 := hI4 19 (by decide) (by decide) (by decide) (by decide) (by decide) (by decide) (by decide) (by decide)
      have hTE := TR.emp hI5
      have e1E : empM N 1 = M 1 := e1
      have hRE : RI (empM N 1) := by rw [e1E]; exact hR
      have h0E : T0 (empM N) := T0.emp (by rw [e1]; exact hV)
      refine j_iload_n F rfl dX3_proof_7 ?_
      refine j_aload_n F rfl dX3_proof_8 ?_
      refine t_get F hT 1 (by decide) rfl q1487 dX3_proof_9 ?_
      refine j_bipush F (by decide) dX3_proof_12 ?_
      refine t_ialdw F hT 1 tm_1 (M 1 6) (congrFun e1 6) (by omega) dX3_proof_14 ?_
      refine j_icmp_ge F 77 (by decide) (by omega) (by omega) dX3_proof_15 (fun c15 => ?_) (fun c15 => ?_)
      · skip
        refine j_iconst F dX3_proof_77 ?_
        exact j_iret F E (Nat.zero_le _) (Nat.zero_le _) dX3_proof_78 (ti_post hT ⟨(lst_none (fun d d0 d1 q => q (hI2 d d0 (by omega)))).symm, hI3, hI4, hI5⟩)
      · skip
        obtain ⟨l1, l2, l3, l4⟩ := ln_ok hR hI0 (by omega)
        refine j_aload_n F rfl dX3_proof_18 ?_
        refine t_callV F hT (ct_X3_empties l G KS x _) (by decide) (by decide) (lw_V q1657 q1659 qs58 q110 q1660) pd_X3_empties rfl (Nat.le_of_ble_eq_true rfl) (Nat.le_refl _) (Nat.le_refl _) dX3_proof_19 (fun M19 h hv19 hT => ?_)
        subst hv19
        refine j_iconst F dX3_proof_22 ?_
        refine j_istore_n F (by decide) dX3_proof_23 ?_
        have L24 : ∀ (m24 : Nat) (i : Nat) (N24 : Mt) (h : Hp), ((i : Int) ≤ lnS (M 1) k ∧ N24 = (ngN (empM N) (lnG M k) i)) → (lnS (M 1) k - i).toNat < m24 → Tw G x N24 h0 h → J X h 24 [(0, .ref x), (1, vI k), (2, vI (i : Int))] [] 0 0 := by
          intro m24
          induction m24 with
          | zero => intro i N24 h hI hm24 hT; exact absurd hm24 (Nat.not_lt_zero _)
          | succ m24 ih24 =>
            intro i N24 h hI hm24 hT
            obtain ⟨hJ0, hJ1⟩ := hI
            subst hJ1
            obtain ⟨a1, a2, a3, a4, a5, a6, a7⟩ := ng_o hRE hTE h0E rfl (fun v v0 v1 => emp_0 (by omega) (by rw [e1E] at v1; omega)) (by rw [e1E]; exact l3) l4 i hJ0
            have e1n : (ngN (empM N) (lnG M k) i) 1 = M 1 := (a4 1 (by decide) (by decide) (by decide) (by decide) (by decide) (by decide)).trans e1E
            have hRn : RI ((ngN (empM N) (lnG M k) i) 1) := by rw [e1n]; exact hR
            refine j_iload_n F rfl dX3_proof_24 ?_
            refine j_aload_n F rfl dX3_proof_25 ?_
            refine j_iload_n F rfl dX3_proof_26 ?_
            refine t_callI F hT (ct_X3_lineSize l G KS x _ (a := k) hRn (by rw [e1n]; omega)) (by decide) (by decide) (lw_V q1792 q1794 qs83 q110 q1795) pd_X3_lineSize rfl (Nat.le_of_ble_eq_true rfl) (Nat.le_refl _) (Nat.le_refl _) dX3_proof_27 (fun v27 M' h hv27 hT => ?_)
            obtain ⟨hv27, rfl⟩ := hv27
            rw [e1n] at hv27
            subst hv27
            refine j_icmp_ge F 60 (by decide) (by omega) (by omega) dX3_proof_30 (fun c30 => ?_) (fun c30 => ?_)
            · skip
              have hin : lnS (M 1) k = (i : Int) := by omega
              have hok : Rfd (ngN (empM N) (lnG M k) i) k 0 ((ngN (empM N) (lnG M k) i) 5) ↔ RfG M k 0 (lnG M k) (lnS (M 1) k) := by
                rw [hin]
                exact Rfd_G hV e1E a2 a4 e18 e19 (by rw [← hin]; exact l3) a5 a6
              refine j_aload_n F rfl dX3_proof_60 ?_
              refine j_iload_n F rfl dX3_proof_61 ?_
              refine j_iconst F dX3_proof_62 ?_
              refine t_callI F hT (ct_X3_isRefused l G KS x _ (L := k) (K := 0) hRn a2 a1 ⟨hI0, by rw [e1n]; omega⟩ (by omega) (fun d d0 d1 => by omega)) (by decide) (by decide) (lw_V q1800 q1802 qs84 q110 q1803) pd_X3_isRefused rfl (Nat.le_of_ble_eq_true rfl) (Nat.le_refl _) (Nat.le_refl _) dX3_proof_63 (fun v63 M63 h hv63 hT => ?_)
              have hM0 : M63 0 0 = 0 := by rw [hv63.2.2.1 0 (by decide) (by decide) (by decide) (by decide) (by decide) (by decide), a4 0 (by decide) (by decide) (by decide) (by decide) (by decide) (by decide), emp_q (by decide) (by decide) (by decide)]; exact hI3
              have hMq : ∀ q : Nat, q ≠ 0 → q ≠ 5 → q ≠ 6 → q ≠ 7 → q ≠ 8 → q ≠ 9 → q ≠ 10 → q ≠ 11 → M63 q = M q := fun q b0 b5 b6 b7 b8 b9 b10 b11 => by rw [hv63.2.2.1 q b5 b6 b7 b8 b9 b10, a4 q b5 b6 b7 b8 b9 b10, emp_q b5 b10 b11]; exact hI4 q b0 b5 b6 b7 b8 b9 b10 b11
              have hvb := hv63.1
              refine j_if_ne F 71 (by decide) (by omega) dX3_proof_66 (fun c66 => ?_) (fun c66 => ?_)
              · skip
                refine j_iinc F rfl (by decide) dX3_proof_71 ?_
                refine j_goto F 7 (by decide) dX3_proof_74 ?_
                refine j_lv (lv' := [(0, .ref x), (1, vI (k + 1))]) ⟨rfl, rfl, trivial⟩ ?_
                exact ih7 (k + 1) _ _ ⟨by omega, by omega, fun d d0 d1 => by
                  by_cases e : d = k
                  · rw [e]; exact hok.mp ((hv63.2.1).mp (by omega))
                  · exact hI2 d d0 (by omega), hM0, hMq, hv63.2.2.2⟩ (by omega) hT
              · skip
                refine j_iload_n F rfl dX3_proof_69 ?_
                exact j_iret F E (Nat.zero_le _) (Nat.zero_le _) dX3_proof_70 (ti_post hT ⟨(lst_at hI0 (by omega) (fun q => by have := hv63.2.1.mpr (hok.mpr q); omega) (fun d d0 d1 q => q (hI2 d d0 d1))).symm, hM0, hMq, hv63.2.2.2⟩)
            · skip
              have l2' := l2 (by omega)
              have l3' := l3 i (by omega) (by omega)
              have l3'' := lok_mono l3' hV.2
              refine j_aload_n F rfl dX3_proof_33 ?_
              refine j_aload_n F rfl dX3_proof_34 ?_
              refine j_aload_n F rfl dX3_proof_35 ?_
              refine t_get F hT 1 (by decide) rfl q1487 dX3_proof_36 ?_
              refine j_sipush F (by decide) dX3_proof_39 ?_
              refine j_iload_n F rfl dX3_proof_42 ?_
              refine j_iadd F dX3_proof_43 ?_
              refine t_ialdw F hT 1 tm_1 (M 1 (925 + k)) (congrFun e1n _) (by omega) dX3_proof_44 ?_
              refine j_iload_n F rfl dX3_proof_45 ?_
              refine t_callI F hT (ct_X3_literal l G KS x _ (c := M 1 (925 + k)) (k := (i : Int)) (by omega) (by omega)) (by decide) (by decide) (lw_V q1685 q1687 qs65 q110 q1688) pd_X3_literal rfl (Nat.le_of_ble_eq_true rfl) (Nat.le_refl _) (Nat.le_refl _) dX3_proof_46 (fun v46 M' h hv46 hT => ?_)
              obtain ⟨hv46, rfl⟩ := hv46
              have e46 : v46 = lnG M k i := by rw [e1n] at hv46; exact hv46
              subst e46
              refine j_ineg F dX3_proof_49 ?_
              refine j_iconst F dX3_proof_50 ?_
              refine t_callV F hT (ct_X3_comes l G KS x _ (a := -(lnG M k i)) (w := -1) (lok_neg l3'') ⟨by omega, a7 (by omega)⟩) (by decide) (by decide) (lw_V q1717 q1719 qs73 q110 q1720) pd_X3_comes rfl (Nat.le_of_ble_eq_true rfl) (Nat.le_refl _) (Nat.le_refl _) dX3_proof_51 (fun M51 h hv51 hT => ?_)
              refine j_iinc F rfl (by decide) dX3_proof_54 ?_
              refine j_goto F 24 (by decide) dX3_proof_57 ?_
              refine j_lv (lv' := [(0, .ref x), (1, vI k), (2, vI ((i + 1) : Int))]) ⟨rfl, rfl, rfl, trivial⟩ ?_
              exact ih24 (i + 1) _ _ ⟨by omega, hv51⟩ (by omega) hT
        refine j_lv (lv' := [(0, .ref x), (1, vI k), (2, vI (0 : Int))]) ⟨rfl, rfl, rfl, trivial⟩ ?_
        exact L24 _ 0 _ _ ⟨by omega, rfl⟩ (Nat.lt_succ_self _) hT
  refine j_lv (lv' := [(0, .ref x), (1, vI 0)]) ⟨rfl, rfl, trivial⟩ ?_
  exact L7 _ 0 _ _ ⟨by omega, by omega, fun d d0 d1 => by omega, rfl, fun q a _ _ _ _ _ _ _ => oM_n _ _ _ a, hTR⟩ (Nat.lt_succ_self _) hT
