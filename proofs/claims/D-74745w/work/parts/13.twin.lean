/-! THE REFERENCE's OBJECT (LearntReasonsModel): a block of 18 cells at x; its state M: field number to contents -/
abbrev Mt : Type := Nat → Int → Int
def oM (M : Mt) (k : Nat) (i v : Int) : Mt := fun q => if q = k then oI (M k) i v else M q
theorem oM_s (M : Mt) (k : Nat) (i v : Int) : oM M k i v k = oI (M k) i v := by simp [oM]
theorem oM_n (M : Mt) {k q : Nat} (i v : Int) (h : q ≠ k) : oM M k i v q = M q := by simp [oM, h]
/-- arrays: field, place in the block, length, kind -/
def twT : List (Nat × Nat × Nat × Nat) := [(1, 1, 13326, 0), (2, 2, 13326, 0), (3, 3, 26652, 0), (4, 4, 2, 1), (5, 5, 31, 0), (6, 6, 31, 0), (7, 7, 31, 0), (8, 8, 31, 0), (9, 9, 30, 0), (12, 10, 31, 1), (13, 11, 31, 1), (14, 12, 31, 1), (18, 13, 400, 0), (19, 14, 402, 0), (21, 15, 400, 2), (26, 16, 31, 1), (27, 17, 8, 0)]
def tfs (x : Nat) (M : Mt) : List Value := [vI (M 0 0), .ref (x + 1), .ref (x + 2), .ref (x + 3), .ref (x + 4), .ref (x + 5), .ref (x + 6), .ref (x + 7), .ref (x + 8), .ref (x + 9), vI (M 10 0), vI (M 11 0), .ref (x + 10), .ref (x + 11), .ref (x + 12), vI (M 15 0), vI (M 16 0), vI (M 17 0), .ref (x + 13), .ref (x + 14), vI (M 20 0), .ref (x + 15), vI (M 22 0), vI (M 23 0), vI (M 24 0), vI (M 25 0), .ref (x + 16), .ref (x + 17)]
def Tw (G : Gt) (x : Nat) (M : Mt) (h0 h : Hp) : Prop := h x = some ((x, 0), oB 2 (tfs x M)) ∧ (∀ k j N c, (k, j, N, c) ∈ twT → h (x + j) = some ((x, j), aI (gA G c) N (M k))) ∧ ∀ q : Nat, (q < x ∨ x + 18 ≤ q) → h q = h0 q
theorem twT_uniq : ∀ e ∈ twT, ∀ e' ∈ twT, (e.2.1 = e'.2.1 → e = e') ∧ (e.1 = e'.1 → e = e') ∧ 0 < e.2.1 ∧ e.2.1 < 18 := by decide +kernel
theorem Tw.seta {G : Gt} {x : Nat} {M : Mt} {h0 h : Hp} (hT : Tw G x M h0 h) {k j N c : Nat} (hm : (k, j, N, c) ∈ twT) (i v : Int) (hk : tfs x (oM M k i v) = tfs x M) : Tw G x (oM M k i v) h0 (hu h (x + j) ((x, j), aI (gA G c) N (oI (M k) i v))) := by
  obtain ⟨h1, h2, h3⟩ := hT
  have u := twT_uniq _ hm _ hm
  refine ⟨?_, ?_, ?_⟩
  · rw [hu_n _ _ (show x ≠ x + j by have := u.2.2.1; simp only at this; omega), hk]
    exact h1
  · intro k' j' N' c' hm'
    by_cases hj : j' = j
    · subst hj
      have e := (twT_uniq _ hm _ hm').1 rfl
      cases e
      rw [hu_s, oM_s]
    · rw [hu_n _ _ (show x + j' ≠ x + j by omega), oM_n M i v (fun e => hj (by have q := (twT_uniq _ hm _ hm').2.1 e.symm; cases q; rfl))]
      exact h2 k' j' N' c' hm'
  · intro q hq
    have hj : j < 18 := u.2.2.2
    rw [hu_n _ _ (show q ≠ x + j by omega)]
    exact h3 q hq
theorem Tw.sets {G : Gt} {x : Nat} {M : Mt} {h0 h : Hp} (hT : Tw G x M h0 h) {k : Nat} (v : Int) (hk : tfs x (oM M k 0 v) = (tfs x M).set k (vI v)) (hn : ∀ e ∈ twT, e.1 ≠ k) : Tw G x (oM M k 0 v) h0 (hu h x ((x, 0), oB 2 ((tfs x M).set k (vI v)))) := by
  obtain ⟨h1, h2, h3⟩ := hT
  refine ⟨?_, ?_, ?_⟩
  · rw [hu_s, hk]
  · intro k' j' N' c' hm'
    have u := (twT_uniq _ hm' _ hm').2.2.1
    rw [hu_n _ _ (show x + j' ≠ x by simp only at u; omega), oM_n M 0 v (hn _ hm')]
    exact h2 k' j' N' c' hm'
  · intro q hq
    rw [hu_n _ _ (show q ≠ x by omega)]
    exact h3 q hq
section JT
variable {l : Launch} {G : Gt} {X : Cx} {y : MethodName} {cc : ByteArray} {nL : Nat} {ret : Option FieldType} {fr lo mc ms : Nat} {h h0 : Hp} {pc : Nat} {lv : List (Nat × Value)} {st : List Value} {k n : Nat} {x : Nat} {M : Mt}
/-- a field of the block: an array's reference, or a number -/
theorem t_get (F : Fx l G X y cc nL ret fr lo mc ms) (hT : Tw G x M h0 h) {idx : Nat} (i : Nat) (hi : i < 28) {v : Value} (hv : (tfs x M)[i]? = some v) (hlink : Cond.fieldLink y.cls idx (TX3 i).1 (TX3 i).2.1 (TX3 i).2.2.1 ∈ lw_all) (d : decode cc pc = .ok (.getfield idx, 3)) (K : J X h (pc + 3) lv (v :: st) k n) : J X h pc lv (.ref x :: st) k n :=
  j_get F in_X3 rfl i hi hlink hT.1 hv d K
theorem t_put (F : Fx l G X y cc nL ret fr lo mc ms) (hT : Tw G x M h0 h) {idx : Nat} (i : Nat) (hi : i < 28) {v : Int} (hfin : (TX3 i).2.2.2 = false) (hty : tyX3 i = .int) (hk : tfs x (oM M i 0 v) = (tfs x M).set i (vI v)) (hn : ∀ e ∈ twT, e.1 ≠ i) (hlink : Cond.fieldLink y.cls idx (TX3 i).1 (TX3 i).2.1 (TX3 i).2.2.1 ∈ lw_all) (d : decode cc pc = .ok (.putfield idx, 3)) (K : ∀ h : Hp, Tw G x (oM M i 0 v) h0 h → J X h (pc + 3) lv st k n) : J X h pc lv (vI v :: .ref x :: st) k n :=
  j_put F in_X3 tyX3 tyX3_ok nmX3 rfl i hi hlink hfin hT.1 (by exact hi) (by rw [hty]; rfl) (by rw [hty]; rfl) d (K _ (hT.sets v hk hn))
theorem t_iald (F : Fx l G X y cc nL ret fr lo mc ms) (hT : Tw G x M h0 h) {j N : Nat} {i : Int} (i9 : Nat) (hm : (i9, j, N, 0) ∈ twT) (hi : 0 ≤ i ∧ i < N) (d : decode cc pc = .ok (.iaload, 1)) (K : J X h (pc + 1) lv (vI (M i9 i) :: st) k n) : J X h pc lv (vI i :: .ref (x + j) :: st) k n :=
  j_iald F (hT.2.1 _ _ _ _ hm) ⟨hi.1, hi.2, by
    have : ∀ e ∈ twT, e.2.2.1 ≤ 26652 := by decide +kernel
    have q := this _ hm
    simp only at q
    omega⟩ d K
theorem t_zald (F : Fx l G X y cc nL ret fr lo mc ms) (hT : Tw G x M h0 h) {j N : Nat} {i : Int} (i9 : Nat) (hm : (i9, j, N, 1) ∈ twT) (hi : 0 ≤ i ∧ i < N) (d : decode cc pc = .ok (.baload, 1)) (K : J X h (pc + 1) lv (vI (M i9 i) :: st) k n) : J X h pc lv (vI i :: .ref (x + j) :: st) k n :=
  j_zald F (hT.2.1 _ _ _ _ hm) ⟨hi.1, hi.2, by
    have : ∀ e ∈ twT, e.2.2.1 ≤ 26652 := by decide +kernel
    have q := this _ hm
    simp only at q
    omega⟩ d K
theorem t_bald (F : Fx l G X y cc nL ret fr lo mc ms) (hT : Tw G x M h0 h) {j N : Nat} {i : Int} (i9 : Nat) (hm : (i9, j, N, 2) ∈ twT) (hi : 0 ≤ i ∧ i < N) (d : decode cc pc = .ok (.baload, 1)) (K : J X h (pc + 1) lv (vI (M i9 i) :: st) k n) : J X h pc lv (vI i :: .ref (x + j) :: st) k n :=
  j_bald F (hT.2.1 _ _ _ _ hm) ⟨hi.1, hi.2, by
    have : ∀ e ∈ twT, e.2.2.1 ≤ 26652 := by decide +kernel
    have q := this _ hm
    simp only at q
    omega⟩ d K
theorem t_ialdw (F : Fx l G X y cc nL ret fr lo mc ms) (hT : Tw G x M h0 h) {j N : Nat} {i : Int} (i9 : Nat) (hm : (i9, j, N, 0) ∈ twT) (w : Int) (hw : M i9 i = w) (hi : 0 ≤ i ∧ i < N) (d : decode cc pc = .ok (.iaload, 1)) (K : J X h (pc + 1) lv (vI w :: st) k n) : J X h pc lv (vI i :: .ref (x + j) :: st) k n := by
  subst hw
  exact t_iald F hT i9 hm hi d K
theorem t_zaldw (F : Fx l G X y cc nL ret fr lo mc ms) (hT : Tw G x M h0 h) {j N : Nat} {i : Int} (i9 : Nat) (hm : (i9, j, N, 1) ∈ twT) (w : Int) (hw : M i9 i = w) (hi : 0 ≤ i ∧ i < N) (d : decode cc pc = .ok (.baload, 1)) (K : J X h (pc + 1) lv (vI w :: st) k n) : J X h pc lv (vI i :: .ref (x + j) :: st) k n := by
  subst hw
  exact t_zald F hT i9 hm hi d K
theorem t_baldw (F : Fx l G X y cc nL ret fr lo mc ms) (hT : Tw G x M h0 h) {j N : Nat} {i : Int} (i9 : Nat) (hm : (i9, j, N, 2) ∈ twT) (w : Int) (hw : M i9 i = w) (hi : 0 ≤ i ∧ i < N) (d : decode cc pc = .ok (.baload, 1)) (K : J X h (pc + 1) lv (vI w :: st) k n) : J X h pc lv (vI i :: .ref (x + j) :: st) k n := by
  subst hw
  exact t_bald F hT i9 hm hi d K
theorem t_iast (F : Fx l G X y cc nL ret fr lo mc ms) (hT : Tw G x M h0 h) {j N : Nat} {i v : Int} (i9 : Nat) (hm : (i9, j, N, 0) ∈ twT) (hk : tfs x (oM M i9 i v) = tfs x M) (hi : 0 ≤ i ∧ i < N) (d : decode cc pc = .ok (.iastore, 1)) (K : ∀ h : Hp, Tw G x (oM M i9 i v) h0 h → J X h (pc + 1) lv st k n) : J X h pc lv (vI v :: vI i :: .ref (x + j) :: st) k n :=
  j_iast F (hT.2.1 _ _ _ _ hm) ⟨hi.1, hi.2, by
    have : ∀ e ∈ twT, e.2.2.1 ≤ 26652 := by decide +kernel
    have q := this _ hm
    simp only at q
    omega⟩ d (K _ (hT.seta hm i v hk))
theorem t_zast (F : Fx l G X y cc nL ret fr lo mc ms) (hT : Tw G x M h0 h) {j N : Nat} {i v : Int} (i9 : Nat) (hm : (i9, j, N, 1) ∈ twT) (hk : tfs x (oM M i9 i v) = tfs x M) (hi : 0 ≤ i ∧ i < N) (hv : v = 0 ∨ v = 1) (d : decode cc pc = .ok (.bastore, 1)) (K : ∀ h : Hp, Tw G x (oM M i9 i v) h0 h → J X h (pc + 1) lv st k n) : J X h pc lv (vI v :: vI i :: .ref (x + j) :: st) k n :=
  j_zast F (hT.2.1 _ _ _ _ hm) ⟨hi.1, hi.2, by
    have : ∀ e ∈ twT, e.2.2.1 ≤ 26652 := by decide +kernel
    have q := this _ hm
    simp only at q
    omega⟩ hv d (K _ (hT.seta hm i v hk))
theorem t_bast (F : Fx l G X y cc nL ret fr lo mc ms) (hT : Tw G x M h0 h) {j N : Nat} {i v : Int} (i9 : Nat) (hm : (i9, j, N, 2) ∈ twT) (hk : tfs x (oM M i9 i v) = tfs x M) (hi : 0 ≤ i ∧ i < N) (hv : narrow .byte (vI v) = vI v) (d : decode cc pc = .ok (.bastore, 1)) (K : ∀ h : Hp, Tw G x (oM M i9 i v) h0 h → J X h (pc + 1) lv st k n) : J X h pc lv (vI v :: vI i :: .ref (x + j) :: st) k n :=
  j_bast F (hT.2.1 _ _ _ _ hm) ⟨hi.1, hi.2, by
    have : ∀ e ∈ twT, e.2.2.1 ≤ 26652 := by decide +kernel
    have q := this _ hm
    simp only at q
    omega⟩ hv d (K _ (hT.seta hm i v hk))
end JT
/-- contracts of its methods -/
def TI (l : Launch) (G : Gt) (y : MethodName) (cc : ByteArray) (nL : Nat) (ret : Option FieldType) (L : Nat) (x : Nat) (As : List Value) (M : Mt) (P : Int → Mt → Prop) : Prop := ∀ h0 h : Hp, Tw G x M h0 h → Ct l G y cc nL ret L (40 * L) 0 0 (.ref x :: As) h (pI (fun v h' => ∃ M' : Mt, P v M' ∧ Tw G x M' h0 h'))
def TV (l : Launch) (G : Gt) (y : MethodName) (cc : ByteArray) (nL : Nat) (L : Nat) (x : Nat) (As : List Value) (M : Mt) (P : Mt → Prop) : Prop := ∀ h0 h : Hp, Tw G x M h0 h → Ct l G y cc nL none L (40 * L) 0 0 (.ref x :: As) h (pV (fun h' => ∃ M' : Mt, P M' ∧ Tw G x M' h0 h'))
/-- a static method that touches nothing -/
def SI (l : Launch) (G : Gt) (y : MethodName) (cc : ByteArray) (nL : Nat) (ret : Option FieldType) (L : Nat) (As : List Value) (P : Int → Prop) : Prop := ∀ h : Hp, Ct l G y cc nL ret L (40 * L) 0 0 As h (pI (fun v h' => P v ∧ h' = h))
theorem room_ok {fr2 nL2 L : Nat} (h : fr2 + 1 ≤ L) (h2 : nL2 ≤ 21) : fr2 + 1 ≤ L ∧ 8 + (nL2 + 11) + 40 * fr2 ≤ 40 * L := by omega
section JTC
variable {l : Launch} {G : Gt} {X : Cx} {y : MethodName} {cc : ByteArray} {nL : Nat} {ret : Option FieldType} {L mc ms : Nat} {h h0 : Hp} {pc : Nat} {lv : List (Nat × Value)} {st : List Value} {k n : Nat} {x : Nat} {M : Mt}
variable {y2 : MethodName} {cc2 : ByteArray} {nL2 : Nat} {ret2 : Option FieldType} {L2 : Nat} {As rest : List Value} {idx : Nat}
theorem t_callI (F : Fx l G X y cc nL ret L (40 * L) mc ms) (hT : Tw G x M h0 h) {P : Int → Mt → Prop} (hM : TI l G y2 cc2 nL2 ret2 L2 x As M P) (hL : L2 + 1 ≤ L) (hn2 : nL2 ≤ 21) (hG : GoodIn lw_all (wsV y.cls idx RX3 y2 (ws_ y2 cc2 nL2 ret2))) (hd : y2.cls = RX3 ∧ y2.cls ≠ "java/lang/invoke/MethodHandle" ∧ y2.cls ≠ "java/lang/invoke/VarHandle" ∧ (parseMethodDescriptor y2.desc).map (fun d => d.parameters.length) = some As.length) (hst : st = As.reverse ++ .ref x :: rest) (hrs : (rest.map fun v => v.category).sum ≤ 8) (hk : k ≤ mc) (hn : n ≤ ms) (d : decode cc pc = .ok (.invokevirtual idx, 3))
    (K : ∀ (v : Int) (M' : Mt) (h' : Hp), P v M' → Tw G x M' h0 h' → J X h' (pc + 3) lv (vI v :: rest) k n) : J X h pc lv st k n :=
  j_callV F (hM h0 h hT) hG hd (room_ok hL hn2) rfl hT.1 hst hrs hk hn d (r_i (fun v h' hp => by obtain ⟨M', hp, hT'⟩ := hp; exact K v M' h' hp hT'))
theorem t_callV (F : Fx l G X y cc nL ret L (40 * L) mc ms) (hT : Tw G x M h0 h) {P : Mt → Prop} (hM : TV l G y2 cc2 nL2 L2 x As M P) (hL : L2 + 1 ≤ L) (hn2 : nL2 ≤ 21) (hG : GoodIn lw_all (wsV y.cls idx RX3 y2 (ws_ y2 cc2 nL2 none))) (hd : y2.cls = RX3 ∧ y2.cls ≠ "java/lang/invoke/MethodHandle" ∧ y2.cls ≠ "java/lang/invoke/VarHandle" ∧ (parseMethodDescriptor y2.desc).map (fun d => d.parameters.length) = some As.length) (hst : st = As.reverse ++ .ref x :: rest) (hrs : (rest.map fun v => v.category).sum ≤ 8) (hk : k ≤ mc) (hn : n ≤ ms) (d : decode cc pc = .ok (.invokevirtual idx, 3))
    (K : ∀ (M' : Mt) (h' : Hp), P M' → Tw G x M' h0 h' → J X h' (pc + 3) lv rest k n) : J X h pc lv st k n :=
  j_callV F (hM h0 h hT) hG hd (room_ok hL hn2) rfl hT.1 hst hrs hk hn d (r_v (fun h' hp => by obtain ⟨M', hp, hT'⟩ := hp; exact K M' h' hp hT'))
theorem s_callI (F : Fx l G X y cc nL ret L (40 * L) mc ms) {P : Int → Prop} (hM : SI l G y2 cc2 nL2 ret2 L2 As P) (hL : L2 + 1 ≤ L) (hn2 : nL2 ≤ 21) (hG : GoodIn lw_all (va_wsS y.cls idx y2 (ws_ y2 cc2 nL2 ret2))) (hd : y2.cls ≠ "java/lang/invoke/MethodHandle" ∧ y2.cls ≠ "java/lang/invoke/VarHandle" ∧ (parseMethodDescriptor y2.desc).map (fun d => d.parameters.length) = some As.length) (hst : st = As.reverse ++ rest) (hrs : (rest.map fun v => v.category).sum ≤ 8) (hk : k ≤ mc) (hn : n ≤ ms) (d : decode cc pc = .ok (.invokestatic idx, 3))
    (K : ∀ (v : Int), P v → J X h (pc + 3) lv (vI v :: rest) k n) : J X h pc lv st k n :=
  j_callS F (hM h) hG hd (room_ok hL hn2) hst hrs hk hn d (r_i (fun v h' hp => by obtain ⟨hp, rfl⟩ := hp; exact K v hp))
/-- two roads meet at P with one number more on the stack -/
theorem j_join (P : Nat) (φ : Int → Prop) (Kj : ∀ v : Int, φ v → J X h P lv (vI v :: st) k n) (K : (∀ v : Int, φ v → J X h P lv (vI v :: st) k n) → J X h pc lv st k n) : J X h pc lv st k n := K Kj
theorem j_joinT (P : Nat) (φ : Int → Prop) (Kj : ∀ (v : Int) (h : Hp), φ v → Tw G x M h0 h → J X h P lv (vI v :: st) k n) (K : (∀ (v : Int) (h : Hp), φ v → Tw G x M h0 h → J X h P lv (vI v :: st) k n) → J X h pc lv st k n) : J X h pc lv st k n := K Kj
/-- two roads meet at P -/
theorem j_meet (P : Nat) (Kj : J X h P lv st k n) (K : J X h P lv st k n → J X h pc lv st k n) : J X h pc lv st k n := K Kj
end JTC
theorem tm_1 : (1, 1, 13326, 0) ∈ twT := by decide
theorem tm_2 : (2, 2, 13326, 0) ∈ twT := by decide
theorem tm_3 : (3, 3, 26652, 0) ∈ twT := by decide
theorem tm_4 : (4, 4, 2, 1) ∈ twT := by decide
theorem tm_5 : (5, 5, 31, 0) ∈ twT := by decide
theorem tm_6 : (6, 6, 31, 0) ∈ twT := by decide
theorem tm_7 : (7, 7, 31, 0) ∈ twT := by decide
theorem tm_8 : (8, 8, 31, 0) ∈ twT := by decide
theorem tm_9 : (9, 9, 30, 0) ∈ twT := by decide
theorem tm_12 : (12, 10, 31, 1) ∈ twT := by decide
theorem tm_13 : (13, 11, 31, 1) ∈ twT := by decide
theorem tm_14 : (14, 12, 31, 1) ∈ twT := by decide
theorem tm_18 : (18, 13, 400, 0) ∈ twT := by decide
theorem tm_19 : (19, 14, 402, 0) ∈ twT := by decide
theorem tm_21 : (21, 15, 400, 2) ∈ twT := by decide
theorem tm_26 : (26, 16, 31, 1) ∈ twT := by decide
theorem tm_27 : (27, 17, 8, 0) ∈ twT := by decide
theorem z01 {p : Prop} [Decidable p] {v : Int} (h : v = if p then 1 else 0) : v = 0 ∨ v = 1 := by
  split at h
  · exact Or.inr h
  · exact Or.inl h
/-- in an int's range -/
def rg (v : Int) : Prop := -2147483648 ≤ v ∧ v ≤ 2147483647
def sM (M : Mt) (k : Nat) (f : Int → Int) : Mt := fun q => if q = k then f else M q
theorem sM_s (M : Mt) (k : Nat) (f : Int → Int) : sM M k f k = f := by simp [sM]
theorem sM_n (M : Mt) {k q : Nat} (f : Int → Int) (h : q ≠ k) : sM M k f q = M q := by simp [sM, h]
theorem oM_sM (M : Mt) (k : Nat) (f : Int → Int) (i v : Int) : oM (sM M k f) k i v = sM M k (oI f i v) := by
  funext q
  by_cases h : q = k
  · subst h
    rw [oM_s, sM_s, sM_s]
  · rw [oM_n _ _ _ h, sM_n _ _ h, sM_n _ _ h]
theorem oM_eq (M : Mt) (k : Nat) (i v : Int) : oM M k i v = sM M k (oI (M k) i v) := rfl
theorem sM_self (M : Mt) (k : Nat) : sM M k (M k) = M := by
  funext q
  by_cases h : q = k
  · subst h
    rw [sM_s]
  · rw [sM_n _ _ h]
theorem sM_sM (M : Mt) (k : Nat) (f g : Int → Int) : sM (sM M k f) k g = sM M k g := by
  funext q
  by_cases h : q = k
  · subst h
    rw [sM_s, sM_s]
  · rw [sM_n _ _ h, sM_n _ _ h, sM_n _ _ h]
theorem ti_post {G : Gt} {x : Nat} {h0 h : Hp} {M' : Mt} (hT : Tw G x M' h0 h) {v : Int} {P : Int → Mt → Prop} (hp : P v M') : pI (fun v h' => ∃ M' : Mt, P v M' ∧ Tw G x M' h0 h') (some (vI v)) h := ⟨v, rfl, M', hp, hT⟩
theorem tv_post {G : Gt} {x : Nat} {h0 h : Hp} {M' : Mt} (hT : Tw G x M' h0 h) {P : Mt → Prop} (hp : P M') : pV (fun h' => ∃ M' : Mt, P M' ∧ Tw G x M' h0 h') none h := ⟨rfl, M', hp, hT⟩
