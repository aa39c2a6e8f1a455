/-! A LAYER OVER THE KIT. Hp: the heap as one map from addresses to coloured cells; J: the walk's judgement over it; Ct: a method's contract. -/
abbrev Hp : Type := Nat → Option ((Nat × Nat) × va_E)
def hu (h : Hp) (a : Nat) (x : (Nat × Nat) × va_E) : Hp := fun q => if q = a then some x else h q
theorem hu_s (h : Hp) (a : Nat) (x : (Nat × Nat) × va_E) : hu h a x a = some x := by simp [hu]
theorem hu_n (h : Hp) {a b : Nat} (x : (Nat × Nat) × va_E) (hne : b ≠ a) : hu h a x b = h b := by simp [hu, hne]
/-- two cells of unlike colours lie apart -/
theorem hne_c {h : Hp} {a b : Nat} {x y : (Nat × Nat) × va_E} (ha : h a = some x) (hb : h b = some y) (hc : x.1 ≠ y.1) : a ≠ b := fun e => by
  subst e
  rw [ha] at hb
  cases hb
  exact hc rfl
theorem hne_e {h : Hp} {a b : Nat} {x y : (Nat × Nat) × va_E} (ha : h a = some x) (hb : h b = some y) (hc : x.2 ≠ y.2) : a ≠ b := fun e => by
  subst e
  rw [ha] at hb
  cases hb
  exact hc rfl
def vI (e : Int) : Value := .int (Int32.ofInt e)
def oI (g : Int → Int) (i v : Int) : Int → Int := fun j => if j = i then v else g j
theorem oI_s (g : Int → Int) (i v : Int) : oI g i v i = v := by simp [oI]
theorem oI_n (g : Int → Int) {i j : Int} (v : Int) (h : j ≠ i) : oI g i v j = g j := by simp [oI, h]
def oQ (g : Int → Option Nat) (i : Int) (v : Option Nat) : Int → Option Nat := fun j => if j = i then v else g j
theorem oQ_s (g : Int → Option Nat) (i : Int) (v : Option Nat) : oQ g i v i = v := by simp [oQ]
theorem oQ_n (g : Int → Option Nat) {i j : Int} (v : Option Nat) (h : j ≠ i) : oQ g i v j = g j := by simp [oQ, h]
def oL (g : Int → Int64) (i : Int) (v : Int64) : Int → Int64 := fun j => if j = i then v else g j
/-- cells: an array of ints (booleans, bytes), of references, of longs; an object -/
def aI (c : ClassId) (n : Nat) (g : Int → Int) : va_E := .inl (c, n, .inl (fun j => Int32.ofInt (g j)))
def aQ (c : ClassId) (n : Nat) (g : Int → Option Nat) : va_E := .inl (c, n, .inr (.inr (.inr (.inr (fun j => g j)))))
def aL (c : ClassId) (n : Nat) (g : Int → Int64) : va_E := .inl (c, n, .inr (.inl (fun j => g j)))
abbrev oB (ci : Nat) (fs : List Value) : va_E := .inr (ci, fs)
abbrev vCk : List vw_C := [(RX1, TX1, 5), (RX2, TX2, 17), (RX3, TX3, 28), (RX4, TX4, 6), (RX5, TX5, 6), (RX6, TX6, 7), (RX7, TX7, 7), (RX8, TX8, 18), (RX9, TX9, 2), (RJ2, TJ2, 3), (RJ3, TJ3, 4), (RJ12, TJ12, 4), (RJ13, TJ13, 4), (RJ17, TJ17, 3), (RJ7, TJ7, 6)]
/-- behind them the classes of the lambdas' objects, by their sites -/
abbrev vCl : List vw_C := [(RX1, TX1, 5), (RX2, TX2, 17), (RX3, TX3, 28), (RX4, TX4, 6), (RX5, TX5, 6), (RX6, TX6, 7), (RX7, TX7, 7), (RX8, TX8, 18), (RX9, TX9, 2), (RJ2, TJ2, 3), (RJ3, TJ3, 4), (RJ12, TJ12, 4), (RJ13, TJ13, 4), (RJ17, TJ17, 3), (RJ7, TJ7, 6), ("", TX9, 1), ("", TX9, 1), ("", TX9, 1), ("", TX9, 1), ("", TX9, 3), ("", TX9, 1), ("", TX9, 1), ("", TX9, 1)]
theorem vCk_l {c : Nat} {q : vw_C} (h : vCk[c]? = some q) : vCl[c]? = some q := by
  have hl : c < 15 := (List.getElem?_eq_some_iff.mp h).1
  match c, hl with
  | 0, _ => exact h
  | 1, _ => exact h
  | 2, _ => exact h
  | 3, _ => exact h
  | 4, _ => exact h
  | 5, _ => exact h
  | 6, _ => exact h
  | 7, _ => exact h
  | 8, _ => exact h
  | 9, _ => exact h
  | 10, _ => exact h
  | 11, _ => exact h
  | 12, _ => exact h
  | 13, _ => exact h
  | 14, _ => exact h
/-- the fixed surroundings: classes and slots, array classes, the state at the law's start -/
abbrev Gt : Type := va_G × (Nat → ClassId) × State
abbrev gS (G : Gt) : State := G.2.2
abbrev gN (G : Gt) : Nat := G.2.2.heap.size
abbrev gA (G : Gt) (k : Nat) : ClassId := G.2.1 k
def tysG (G : Gt) : List (ClassId × FieldType) := [(gA G 0, .int), (gA G 1, .boolean), (gA G 2, .byte), (gA G 3, .long), (gA G 4, .object "java/lang/Object"), (gA G 5, .object RX5), (gA G 6, .object RX2), (gA G 7, .object RX9), (gA G 8, .object "LearntReasons$Statement")]
def Ks (l : Launch) (G : Gt) : Prop := (∃ b0 : Nat, (∀ w ∈ lw_tbl, w.before #[Value.ref b0] (gS G) = true) ∧ (Jvm.Cond.and given_1 narrow_1).before #[Value.ref b0] (gS G) = true) ∧ va_K G.1 vCk (tysG G) (gS G) ∧ l.flags = flags0
def Sh (G : Gt) (h : Hp) (H : Heap) (locs : List Loc) : Prop := (∀ (a : Nat) (t : Nat × Nat) (e : va_E), h a = some (t, e) → va_at G.1 vCl (a, e) H ∧ gN G ≤ a ∧ t.1 ≤ a) ∧ (∀ q : Nat, q < gN G → H[q]? = (gS G).heap[q]?) ∧ gN G ≤ H.size ∧ ∀ x ∈ locs, gN G ≤ x.base
abbrev Cx : Type := Gt × Launch × Room × Nat × Program × Env × State × MethodId × Array Value × List Frame × Method × Code × (State → Prop)
abbrev xG (X : Cx) : Gt := X.1
abbrev xl (X : Cx) : Launch := X.2.1
abbrev xR (X : Cx) : Room := X.2.2.1
abbrev xnL (X : Cx) : Nat := X.2.2.2.1
abbrev xp (X : Cx) : Program := X.2.2.2.2.1
abbrev xe (X : Cx) : Env := X.2.2.2.2.2.1
abbrev xs (X : Cx) : State := X.2.2.2.2.2.2.1
abbrev xm (X : Cx) : MethodId := X.2.2.2.2.2.2.2.1
abbrev xargs (X : Cx) : Array Value := X.2.2.2.2.2.2.2.2.1
abbrev xbelow (X : Cx) : List Frame := X.2.2.2.2.2.2.2.2.2.1
abbrev xmeth (X : Cx) : Method := X.2.2.2.2.2.2.2.2.2.2.1
abbrev xc (X : Cx) : Code := X.2.2.2.2.2.2.2.2.2.2.2.1
abbrev xQ (X : Cx) : State → Prop := X.2.2.2.2.2.2.2.2.2.2.2.2
abbrev JW (X : Cx) (H : Heap) (locs : List Loc) (k n : Nat) (g : JFrame) : Prop := W (xp X) (xl X) (xe X) (xR X) (xs X) (xm X) (xargs X) (xbelow X) (xmeth X) (xc X) H locs k n (xQ X) g
/-- the walk at pc, over the heap h, with locals lv, operand stack st; k cells of n slots made so far -/
def J (X : Cx) (h : Hp) (pc : Nat) (lv : List (Nat × Value)) (st : List Value) (k n : Nat) : Prop := ∀ (H : Heap) (locs : List Loc) (ls : Array Slot), Sh (xG X) h H locs → lv_has ls (xnL X) lv → JW X H locs k n (F0 (xm X) pc ls st)
def Fx (l : Launch) (G : Gt) (X : Cx) (y : MethodName) (cc : ByteArray) (nL : Nat) (ret : Option FieldType) (fr lo mc ms : Nat) : Prop := xG X = G ∧ xl X = l ∧ xR X = { frames := fr, cells := mc, slots := ms, locals := lo } ∧ xnL X = nL ∧ (xp X).tables.exec = Jvm.exec ∧ (xc X).code = cc ∧ (xc X).maxLocals = nL ∧ (xs X).vm.findClass y.cls = some (xm X).cls ∧ (∀ w ∈ lw_all, w.before (xargs X) (xs X) = true) ∧ (xmeth X).sig.returnType = ret ∧ (xmeth X).locks = false ∧ (xmeth X).name = y.name ∧ (gS G).WarmedH (xs X).vm ∧ Ks l G
/-- the contract's end -/
def hQ (G : Gt) (post : Option Value → Hp → Prop) : Array Value → State → Outcome → State → Prop := fun _ _ oc t => ∃ (r : Option Value) (h' : Hp), oc = .returned r ∧ post r h' ∧ Sh G h' t.heap []
def En (X : Cx) (post : Option Value → Hp → Prop) : Prop := xQ X = MQ (xbelow X) (hQ (xG X) post) (xargs X) (xs X) (xR X).cells (xR X).slots (fun q => gN (xG X) ≤ q)
def Ct (l : Launch) (G : Gt) (y : MethodName) (cc : ByteArray) (nL : Nat) (ret : Option FieldType) (fr lo mc ms : Nat) (av : List Value) (h : Hp) (post : Option Value → Hp → Prop) : Prop :=
  Met l y (ws_ y cc nL ret) { frames := fr, cells := mc, slots := ms, locals := lo } (va_Pc av (fun U => Sh G h U.heap [] ∧ (gS G).WarmedH U.vm)) (hQ G post) mc ms (fun q => gN G ≤ q)
def pI (P : Int → Hp → Prop) : Option Value → Hp → Prop := fun r h' => ∃ v : Int, r = some (vI v) ∧ P v h'
def pV (P : Hp → Prop) : Option Value → Hp → Prop := fun r h' => r = none ∧ P h'
def pR (P : Nat → Hp → Prop) : Option Value → Hp → Prop := fun r h' => ∃ a : Nat, r = some (.ref a) ∧ P a h'
def pN (P : Option Nat → Hp → Prop) : Option Value → Hp → Prop := fun r h' => ∃ a : Option Nat, r = some (va_rf a) ∧ P a h'
def pL (P : Int64 → Hp → Prop) : Option Value → Hp → Prop := fun r h' => ∃ v : Int64, r = some (.long v) ∧ P v h'
theorem ct_of {l : Launch} {G : Gt} {y : MethodName} {cc : ByteArray} {nL : Nat} {ret : Option FieldType} {fr lo mc ms : Nat} {av : List Value} {h : Hp} {post : Option Value → Hp → Prop} (KS : Ks l G) (hy : plainName y.cls = true) (hn : (lg_sl av).length ≤ nL)
    (body : ∀ X : Cx, Fx l G X y cc nL ret fr lo mc ms → En X post → J X h 0 (lv_args 0 av) [] 0 0) : Ct l G y cc nL ret fr lo mc ms av h post := by
  refine Met.ofW (cc := cc) (maxL := nL) (ret := ret) hy rfl ?_
  intro p e s m args below meth c s₁ B hml hv
  obtain ⟨rfl, hS, hW⟩ := hv
  have hts := atoms_spec (ws := ws_ y cc nL ret) B.pre
  have hts : ∀ w ∈ lw_all, w.before _ s = true := fun w h => hts w (List.mem_cons_of_mem _ h)
  rw [lg_entry_eq]
  exact body (G, l, { frames := fr, cells := mc, slots := ms, locals := lo }, nL, p, e, s, m, av.toArray, below, meth, c, MQ below (hQ G post) av.toArray s mc ms (fun q => gN G ≤ q)) ⟨rfl, rfl, rfl, rfl, B.exec, B.bytes, hml, findClass_of_methodNamed B.named, hts, B.returns, B.notSynchronized, (name_of_methodNamed B.named B.method).1, hW, KS⟩ rfl s.heap [] _ hS (lv_entry av hn)
theorem vI_add (a b : Int) : vI (a + b) = .int (Int32.ofInt a + Int32.ofInt b) := by rw [vI, Int32.ofInt_add]
theorem vI_sub (a b : Int) : vI (a - b) = .int (Int32.ofInt a - Int32.ofInt b) := by rw [vI, Int32.ofInt_sub]
theorem vI_mul (a b : Int) : vI (a * b) = .int (Int32.ofInt a * Int32.ofInt b) := by rw [vI, Int32.ofInt_mul]
theorem vI_neg (a : Int) : vI (-a) = .int (-Int32.ofInt a) := by rw [vI, Int32.ofInt_neg]
theorem i_toInt {a : Int} (h : -2147483648 ≤ a ∧ a ≤ 2147483647) : (Int32.ofInt a).toInt = a := Int32.toInt_ofInt_of_le (by omega) (by omega)
theorem i_lt {a b : Int} (ha : -2147483648 ≤ a ∧ a ≤ 2147483647) (hb : -2147483648 ≤ b ∧ b ≤ 2147483647) : Int32.ofInt a < Int32.ofInt b ↔ a < b := by
  rw [Int32.lt_iff_toInt_lt, i_toInt ha, i_toInt hb]
theorem i_le {a b : Int} (ha : -2147483648 ≤ a ∧ a ≤ 2147483647) (hb : -2147483648 ≤ b ∧ b ≤ 2147483647) : Int32.ofInt a ≤ Int32.ofInt b ↔ a ≤ b := by
  rw [Int32.le_iff_toInt_le, i_toInt ha, i_toInt hb]
theorem i_eq {a b : Int} (ha : -2147483648 ≤ a ∧ a ≤ 2147483647) (hb : -2147483648 ≤ b ∧ b ≤ 2147483647) : Int32.ofInt a = Int32.ofInt b ↔ a = b := by
  rw [← Int32.toInt_inj, i_toInt ha, i_toInt hb]
theorem i_0 : (0 : Int32) = Int32.ofInt 0 := rfl
theorem i_clamp {a : Int} (h : 0 ≤ a ∧ a ≤ 2147483647) : (Int32.ofInt a).toNatClampNeg = a.toNat := by
  show (Int32.ofInt a).toInt.toNat = a.toNat
  rw [i_toInt (by omega)]
theorem i_nat (n : Nat) : Int32.ofNat n = Int32.ofInt (n : Int) := by
  first
  | exact (Int32.ofInt_natCast n).symm
  | exact Int32.toBitVec_inj.mp (by simp)
  | exact Int32.toBitVec_inj.mp (by simp [Int32.ofNat, Int32.ofInt])
  | rfl
theorem i_in {i : Int} {n : Nat} (h : 0 ≤ i ∧ i < n ∧ i < 2147483648) : vp_in (Int32.ofInt i) n := by
  intro q
  rcases q with q | q
  · rw [i_0, i_lt (by omega) (by omega)] at q
    omega
  · rw [i_clamp (by omega)] at q
    omega
/-- a local's value -/
def lg (lv : List (Nat × Value)) (i : Nat) : Option Value := match lv with
  | [] => none
  | (j, v) :: r => cond (Nat.beq j i) (some v) (lg r i)
theorem lg_in : ∀ (lv : List (Nat × Value)) (i : Nat) (v : Value), lg lv i = some v → (i, v) ∈ lv
  | [], i, v, h => by cases h
  | (j, w) :: r, i, v, h => by
    unfold lg at h
    cases hb : Nat.beq j i with
    | true =>
      rw [hb] at h
      have e : j = i := Nat.eq_of_beq_eq_true hb
      cases h
      subst e
      exact List.mem_cons_self
    | false =>
      rw [hb] at h
      exact List.mem_cons_of_mem _ (lg_in r i v h)
theorem lg_at {ls : Array Slot} {nL : Nat} {lv : List (Nat × Value)} {i : Nat} {v : Value} (hl : lv_has ls nL lv) (h : lg lv i = some v) : ls[i]? = some (.val v) := hl.2.2 _ (lg_in lv i v h)
/-- storing a value of one word -/
def l1 (lv : List (Nat × Value)) (i : Nat) (v : Value) : List (Nat × Value) := (i, v) :: lv.filter (fun q => !(q.1 == i) && !(q.1 + 1 == i && q.2.category == 2))
def l2 (lv : List (Nat × Value)) (i : Nat) (v : Value) : List (Nat × Value) := (i, v) :: lv.filter (fun q => !(q.1 == i) && (!(q.1 == i + 1) && !(q.1 + 1 == i && q.2.category == 2)))
/-- these locals are held -/
def lh (lv : List (Nat × Value)) : List (Nat × Value) → Prop
  | [] => True
  | (i, v) :: r => lg lv i = some v ∧ lh lv r
theorem lh_in {lv : List (Nat × Value)} : ∀ (l : List (Nat × Value)), lh lv l → ∀ q ∈ l, q ∈ lv
  | [], _, q, hq => by cases hq
  | (i, v) :: r, h, q, hq => by
    rcases List.mem_cons.mp hq with e | e
    · subst e
      exact lg_in lv i v h.1
    · exact lh_in r h.2 q e
theorem j_lv {X : Cx} {h : Hp} {pc : Nat} {lv lv' : List (Nat × Value)} {st : List Value} {k n : Nat} (hl : lh lv lv') (K : J X h pc lv' st k n) : J X h pc lv st k n :=
  fun H locs ls hS h1 => K H locs ls hS ⟨h1.1, h1.2.1, fun q hq => h1.2.2 q (lh_in lv' hl q hq)⟩
theorem j_st {X : Cx} {h : Hp} {pc : Nat} {lv : List (Nat × Value)} {st st' : List Value} {k n : Nat} (e : st = st') (K : J X h pc lv st' k n) : J X h pc lv st k n := e ▸ K
theorem j_h {X : Cx} {h h' : Hp} {pc : Nat} {lv : List (Nat × Value)} {st : List Value} {k n : Nat} (e : h = h') (K : J X h' pc lv st k n) : J X h pc lv st k n := e ▸ K
/-- forgetting what is known of some cells -/
theorem j_less {X : Cx} {h h' : Hp} {pc : Nat} {lv : List (Nat × Value)} {st : List Value} {k n : Nat} (e : ∀ a x, h' a = some x → h a = some x) (K : J X h' pc lv st k n) : J X h pc lv st k n :=
  fun H locs ls hS hl => K H locs ls ⟨fun a t x ha => hS.1 a t x (e a _ ha), hS.2⟩ hl
theorem j_wide {X : Cx} {h : Hp} {pc : Nat} {lv : List (Nat × Value)} {st : List Value} {k n k' n' : Nat} (h1 : k ≤ k') (h2 : n ≤ n') (K : J X h pc lv st k' n') : J X h pc lv st k n :=
  fun H locs ls hS hl => W.widen h1 h2 (K H locs ls hS hl)
theorem Sh.set {G : Gt} {h : Hp} {H H1 : Heap} {locs : List Loc} {a i : Nat} {t : Nat × Nat} {e0 e1 : va_E} (hS : Sh G h H locs) (ha : h a = some (t, e0)) (he : va_at G.1 vCl (a, e1) H1) (z : H1.size = H.size) (oq : ∀ q : Nat, q ≠ a → H1[q]? = H[q]?) : Sh G (hu h a (t, e1)) H1 (locs ++ [⟨a, i⟩]) := by
  obtain ⟨-, hA, hT⟩ := hS.1 a t e0 ha
  refine ⟨fun b u e hb => ?_, fun q hq => ?_, by rw [z]; exact hS.2.2.1, fun x hx => ?_⟩
  · by_cases hba : b = a
    · subst hba
      rw [hu_s] at hb
      cases hb
      exact ⟨he, hA, hT⟩
    · rw [hu_n h _ hba] at hb
      obtain ⟨q1, q2⟩ := hS.1 b u e hb
      exact ⟨q1.kept (oq b hba), q2⟩
  · rw [oq q (by omega)]
    exact hS.2.1 q hq
  · rcases List.mem_append.mp hx with h1 | h1
    · exact hS.2.2.2 x h1
    · rw [List.mem_singleton.mp h1]
      exact hA
theorem Sh.new {G : Gt} {h : Hp} {H H1 : Heap} {locs : List Loc} {t : Nat × Nat} {e1 : va_E} (hS : Sh G h H locs) (he : va_at G.1 vCl (H.size, e1) H1) (z : H1.size = H.size + 1) (oq : ∀ q : Nat, q < H.size → H1[q]? = H[q]?) (ht : t.1 ≤ H.size) : Sh G (hu h H.size (t, e1)) H1 locs := by
  refine ⟨fun b u e hb => ?_, fun q hq => ?_, by rw [z]; exact Nat.le_succ_of_le hS.2.2.1, hS.2.2.2⟩
  · by_cases hba : b = H.size
    · subst hba
      rw [hu_s] at hb
      cases hb
      exact ⟨he, hS.2.2.1, ht⟩
    · rw [hu_n h _ hba] at hb
      obtain ⟨q1, q2⟩ := hS.1 b u e hb
      exact ⟨q1.kept (oq b q1.lt), q2⟩
  · rw [oq q (Nat.lt_of_lt_of_le hq hS.2.2.1)]
    exact hS.2.1 q hq
/-- q lies above all that is known -/
def Ab (h : Hp) (q : Nat) : Prop := ∀ (a : Nat) (x : (Nat × Nat) × va_E), h a = some x → a < q ∧ x.1.1 < q
theorem Sh.ab {G : Gt} {h : Hp} {H : Heap} {locs : List Loc} (hS : Sh G h H locs) : Ab h H.size := fun a x ha => by
  obtain ⟨q1, -, q2⟩ := hS.1 a x.1 x.2 ha
  have := q1.lt
  exact ⟨this, by simp only at this; omega⟩
theorem Ab.none {h : Hp} {q : Nat} (H : Ab h q) : h q = none := by
  cases e : h q with
  | none => rfl
  | some x => exact absurd (H q x e).1 (Nat.lt_irrefl _)
theorem Ab.ne {h : Hp} {q a : Nat} {x : (Nat × Nat) × va_E} (H : Ab h q) (ha : h a = some x) : a ≠ q := fun e => by
  have := (H a x ha).1
  omega
section JR
variable {l : Launch} {G : Gt} {X : Cx} {y : MethodName} {cc : ByteArray} {nL : Nat} {ret : Option FieldType} {fr lo mc ms : Nat} {h : Hp} {pc : Nat} {lv : List (Nat × Value)} {st : List Value} {k n : Nat}
theorem Fx.g (F : Fx l G X y cc nL ret fr lo mc ms) : xG X = G := F.1
theorem Fx.la (F : Fx l G X y cc nL ret fr lo mc ms) : xl X = l := F.2.1
theorem Fx.room (F : Fx l G X y cc nL ret fr lo mc ms) : xR X = { frames := fr, cells := mc, slots := ms, locals := lo } := F.2.2.1
theorem Fx.nl (F : Fx l G X y cc nL ret fr lo mc ms) : xnL X = nL := F.2.2.2.1
theorem Fx.exec (F : Fx l G X y cc nL ret fr lo mc ms) : (xp X).tables.exec = Jvm.exec := F.2.2.2.2.1
theorem Fx.code (F : Fx l G X y cc nL ret fr lo mc ms) : (xc X).code = cc := F.2.2.2.2.2.1
theorem Fx.ml (F : Fx l G X y cc nL ret fr lo mc ms) : (xc X).maxLocals = nL := F.2.2.2.2.2.2.1
theorem Fx.own (F : Fx l G X y cc nL ret fr lo mc ms) : (xs X).vm.findClass y.cls = some (xm X).cls := F.2.2.2.2.2.2.2.1
theorem Fx.ts (F : Fx l G X y cc nL ret fr lo mc ms) : ∀ w ∈ lw_all, w.before (xargs X) (xs X) = true := F.2.2.2.2.2.2.2.2.1
theorem Fx.rt (F : Fx l G X y cc nL ret fr lo mc ms) : (xmeth X).sig.returnType = ret := F.2.2.2.2.2.2.2.2.2.1
theorem Fx.locks (F : Fx l G X y cc nL ret fr lo mc ms) : (xmeth X).locks = false := F.2.2.2.2.2.2.2.2.2.2.1
theorem Fx.name (F : Fx l G X y cc nL ret fr lo mc ms) : (xmeth X).name = y.name := F.2.2.2.2.2.2.2.2.2.2.2.1
theorem Fx.warm (F : Fx l G X y cc nL ret fr lo mc ms) : (gS G).WarmedH (xs X).vm := F.2.2.2.2.2.2.2.2.2.2.2.2.1
theorem Fx.ks (F : Fx l G X y cc nL ret fr lo mc ms) : Ks l G := F.2.2.2.2.2.2.2.2.2.2.2.2.2
theorem Fx.K (F : Fx l G X y cc nL ret fr lo mc ms) : va_K G.1 vCk (tysG G) (xs X) := va_K.moved F.warm.alike F.ks.2.1

theorem j_iconst (F : Fx l G X y cc nL ret fr lo mc ms) {v : Int} (d : decode cc pc = .ok (.iconst v, 1)) (K : J X h (pc + 1) lv (vI v :: st) k n) : J X h pc lv (st) k n := fun H locs ls hS hl => by
  have q := K H locs ls hS hl
  exact lv_iconst F.exec F.code d rfl q
theorem j_bipush (F : Fx l G X y cc nL ret fr lo mc ms) {v : Int} (hv : (Int8.ofInt v).toInt32 = Int32.ofInt v) (d : decode cc pc = .ok (.bipush v, 2)) (K : J X h (pc + 2) lv (vI v :: st) k n) : J X h pc lv (st) k n := fun H locs ls hS hl => by
  have q := K H locs ls hS hl
  exact lv_bipush F.exec F.code d hv q
theorem j_sipush (F : Fx l G X y cc nL ret fr lo mc ms) {v : Int} (hv : (Int16.ofInt v).toInt32 = Int32.ofInt v) (d : decode cc pc = .ok (.sipush v, 3)) (K : J X h (pc + 3) lv (vI v :: st) k n) : J X h pc lv (st) k n := fun H locs ls hS hl => by
  have q := K H locs ls hS hl
  exact lv_sipush F.exec F.code d hv q
theorem j_null (F : Fx l G X y cc nL ret fr lo mc ms)  (d : decode cc pc = .ok (.aconst_null, 1)) (K : J X h (pc + 1) lv (.null :: st) k n) : J X h pc lv (st) k n := fun H locs ls hS hl => by
  have q := K H locs ls hS hl
  exact lv_null F.exec F.code d q
theorem j_ldc (F : Fx l G X y cc nL ret fr lo mc ms) {idx : Nat} {w : Int32} {v : Int} (hc : Jvm.Cond.constant y.cls idx w ∈ lw_all) (hw : w = Int32.ofInt v) (d : decode cc pc = .ok (.ldc idx, 2)) (K : J X h (pc + 2) lv (vI v :: st) k n) : J X h pc lv st k n := fun H locs ls hS hl => by
  have q := K H locs ls hS hl
  subst hw
  exact lv_ldc F.exec F.code F.own (F.ts _ hc) d q
theorem j_ldc2 (F : Fx l G X y cc nL ret fr lo mc ms) {idx : Nat} {v : Int64} (hc : Jvm.Cond.constantLong y.cls idx v ∈ lw_all) (d : decode cc pc = .ok (.ldc2_w idx, 3)) (K : J X h (pc + 3) lv (.long v :: st) k n) : J X h pc lv st k n := fun H locs ls hS hl =>
  lv_ldc2 F.exec F.code F.own (F.ts _ hc) d (K H locs ls hS hl)
theorem j_lconst (F : Fx l G X y cc nL ret fr lo mc ms) {i : Fin 2} {v : Int64} (hv : Int64.ofNat (i : Nat) = v) (d : decode cc pc = .ok (.lconst i, 1)) (K : J X h (pc + 1) lv (.long v :: st) k n) : J X h pc lv st k n := fun H locs ls hS hl =>
  lv_lconst F.exec F.code d hv (K H locs ls hS hl)
/-- loads -/
theorem j_iload_n (F : Fx l G X y cc nL ret fr lo mc ms) {j : Fin 4} {v : Int} (hv : lg lv (j : Nat) = some (vI v)) (d : decode cc pc = .ok (.iload_n j, 1)) (K : J X h (pc + 1) lv (vI v :: st) k n) : J X h pc lv st k n := fun H locs ls hS hl =>
  lv_iload_n F.exec F.code d rfl (lg_at hl hv) (K H locs ls hS hl)
theorem j_iload (F : Fx l G X y cc nL ret fr lo mc ms) {j : Nat} {v : Int} (hv : lg lv j = some (vI v)) (d : decode cc pc = .ok (.iload j, 2)) (K : J X h (pc + 2) lv (vI v :: st) k n) : J X h pc lv st k n := fun H locs ls hS hl =>
  lv_iload F.exec F.code d (lg_at hl hv) (K H locs ls hS hl)
theorem j_lload_n (F : Fx l G X y cc nL ret fr lo mc ms) {j : Fin 4} {v : Int64} (hv : lg lv (j : Nat) = some (.long v)) (d : decode cc pc = .ok (.lload_n j, 1)) (K : J X h (pc + 1) lv (.long v :: st) k n) : J X h pc lv st k n := fun H locs ls hS hl =>
  lv_lload_n F.exec F.code d rfl (lg_at hl hv) (K H locs ls hS hl)
theorem j_lload (F : Fx l G X y cc nL ret fr lo mc ms) {j : Nat} {v : Int64} (hv : lg lv j = some (.long v)) (d : decode cc pc = .ok (.lload j, 2)) (K : J X h (pc + 2) lv (.long v :: st) k n) : J X h pc lv st k n := fun H locs ls hS hl =>
  lv_lload F.exec F.code d (lg_at hl hv) (K H locs ls hS hl)
theorem j_aload_n (F : Fx l G X y cc nL ret fr lo mc ms) {j : Fin 4} {a : Nat} (hv : lg lv (j : Nat) = some (.ref a)) (d : decode cc pc = .ok (.aload_n j, 1)) (K : J X h (pc + 1) lv (.ref a :: st) k n) : J X h pc lv st k n := fun H locs ls hS hl =>
  lv_aload_n F.exec F.code d rfl (lg_at hl hv) (K H locs ls hS hl)
theorem j_aload (F : Fx l G X y cc nL ret fr lo mc ms) {j : Nat} {a : Nat} (hv : lg lv j = some (.ref a)) (d : decode cc pc = .ok (.aload j, 2)) (K : J X h (pc + 2) lv (.ref a :: st) k n) : J X h pc lv st k n := fun H locs ls hS hl =>
  lv_aload F.exec F.code d (lg_at hl hv) (K H locs ls hS hl)
theorem j_aload_nN (F : Fx l G X y cc nL ret fr lo mc ms) {j : Fin 4} (hv : lg lv (j : Nat) = some .null) (d : decode cc pc = .ok (.aload_n j, 1)) (K : J X h (pc + 1) lv (.null :: st) k n) : J X h pc lv st k n := fun H locs ls hS hl =>
  lv_aload_nN F.exec F.code d rfl (lg_at hl hv) (K H locs ls hS hl)
theorem j_aloadN (F : Fx l G X y cc nL ret fr lo mc ms) {j : Nat} (hv : lg lv j = some .null) (d : decode cc pc = .ok (.aload j, 2)) (K : J X h (pc + 2) lv (.null :: st) k n) : J X h pc lv st k n := fun H locs ls hS hl =>
  lv_aloadN F.exec F.code d (lg_at hl hv) (K H locs ls hS hl)
/-- a reference or null -/
theorem j_aload_nq (F : Fx l G X y cc nL ret fr lo mc ms) {j : Fin 4} {o : Option Nat} (hv : lg lv (j : Nat) = some (va_rf o)) (d : decode cc pc = .ok (.aload_n j, 1)) (K : J X h (pc + 1) lv (va_rf o :: st) k n) : J X h pc lv st k n := by
  cases o with
  | none => exact j_aload_nN F hv d K
  | some a => exact j_aload_n F hv d K
theorem j_aloadq (F : Fx l G X y cc nL ret fr lo mc ms) {j : Nat} {o : Option Nat} (hv : lg lv j = some (va_rf o)) (d : decode cc pc = .ok (.aload j, 2)) (K : J X h (pc + 2) lv (va_rf o :: st) k n) : J X h pc lv st k n := by
  cases o with
  | none => exact j_aloadN F hv d K
  | some a => exact j_aload F hv d K
/-- stores -/
theorem j_istore_n (F : Fx l G X y cc nL ret fr lo mc ms) {j : Fin 4} {v : Int} (hn : (j : Nat) < nL) (d : decode cc pc = .ok (.istore_n j, 1)) (K : J X h (pc + 1) (l1 lv (j : Nat) (vI v)) st k n) : J X h pc lv (vI v :: st) k n := fun H locs ls hS hl =>
  lv_istore_n F.exec F.code d rfl hl (by rw [F.nl]; exact hn) rfl (fun ls' hl' => K H locs ls' hS hl')
theorem j_istore (F : Fx l G X y cc nL ret fr lo mc ms) {j : Nat} {v : Int} (hn : j < nL) (d : decode cc pc = .ok (.istore j, 2)) (K : J X h (pc + 2) (l1 lv j (vI v)) st k n) : J X h pc lv (vI v :: st) k n := fun H locs ls hS hl =>
  lv_istore F.exec F.code d hl (by rw [F.nl]; exact hn) rfl (fun ls' hl' => K H locs ls' hS hl')
theorem j_lstore_n (F : Fx l G X y cc nL ret fr lo mc ms) {j : Fin 4} {v : Int64} (hn : (j : Nat) + 1 < nL) (d : decode cc pc = .ok (.lstore_n j, 1)) (K : J X h (pc + 1) (l2 lv (j : Nat) (.long v)) st k n) : J X h pc lv (.long v :: st) k n := fun H locs ls hS hl =>
  lv_lstore_n F.exec F.code d rfl hl (by rw [F.nl]; exact hn) rfl (fun ls' hl' => K H locs ls' hS hl')
theorem j_lstore (F : Fx l G X y cc nL ret fr lo mc ms) {j : Nat} {v : Int64} (hn : j + 1 < nL) (d : decode cc pc = .ok (.lstore j, 2)) (K : J X h (pc + 2) (l2 lv j (.long v)) st k n) : J X h pc lv (.long v :: st) k n := fun H locs ls hS hl =>
  lv_lstore F.exec F.code d hl (by rw [F.nl]; exact hn) rfl (fun ls' hl' => K H locs ls' hS hl')
theorem j_astore_n (F : Fx l G X y cc nL ret fr lo mc ms) {j : Fin 4} {a : Nat} (hn : (j : Nat) < nL) (d : decode cc pc = .ok (.astore_n j, 1)) (K : J X h (pc + 1) (l1 lv (j : Nat) (.ref a)) st k n) : J X h pc lv (.ref a :: st) k n := fun H locs ls hS hl =>
  lv_astore_n F.exec F.code d rfl hl (by rw [F.nl]; exact hn) rfl (fun ls' hl' => K H locs ls' hS hl')
theorem j_astore (F : Fx l G X y cc nL ret fr lo mc ms) {j : Nat} {a : Nat} (hn : j < nL) (d : decode cc pc = .ok (.astore j, 2)) (K : J X h (pc + 2) (l1 lv j (.ref a)) st k n) : J X h pc lv (.ref a :: st) k n := fun H locs ls hS hl =>
  lv_astore F.exec F.code d hl (by rw [F.nl]; exact hn) rfl (fun ls' hl' => K H locs ls' hS hl')
theorem j_astore_nN (F : Fx l G X y cc nL ret fr lo mc ms) {j : Fin 4} (hn : (j : Nat) < nL) (d : decode cc pc = .ok (.astore_n j, 1)) (K : J X h (pc + 1) (l1 lv (j : Nat) .null) st k n) : J X h pc lv (.null :: st) k n := fun H locs ls hS hl =>
  lv_astore_nN F.exec F.code d rfl hl (by rw [F.nl]; exact hn) rfl (fun ls' hl' => K H locs ls' hS hl')
theorem j_astoreN (F : Fx l G X y cc nL ret fr lo mc ms) {j : Nat} (hn : j < nL) (d : decode cc pc = .ok (.astore j, 2)) (K : J X h (pc + 2) (l1 lv j .null) st k n) : J X h pc lv (.null :: st) k n := fun H locs ls hS hl =>
  lv_astoreN F.exec F.code d hl (by rw [F.nl]; exact hn) rfl (fun ls' hl' => K H locs ls' hS hl')
theorem j_astore_nq (F : Fx l G X y cc nL ret fr lo mc ms) {j : Fin 4} {o : Option Nat} (hn : (j : Nat) < nL) (d : decode cc pc = .ok (.astore_n j, 1)) (K : J X h (pc + 1) (l1 lv (j : Nat) (va_rf o)) st k n) : J X h pc lv (va_rf o :: st) k n := by
  cases o with
  | none => exact j_astore_nN F hn d K
  | some a => exact j_astore_n F hn d K
theorem j_astoreq (F : Fx l G X y cc nL ret fr lo mc ms) {j : Nat} {o : Option Nat} (hn : j < nL) (d : decode cc pc = .ok (.astore j, 2)) (K : J X h (pc + 2) (l1 lv j (va_rf o)) st k n) : J X h pc lv (va_rf o :: st) k n := by
  cases o with
  | none => exact j_astoreN F hn d K
  | some a => exact j_astore F hn d K
theorem lg_k : ∀ (lv : List (Nat × Value)) (i : Nat) (v : Value), lg lv i = some v → ∃ q : Nat, lv[q]? = some (i, v) := fun lv i v h => List.getElem?_of_mem (lg_in lv i v h)
theorem j_iinc (F : Fx l G X y cc nL ret fr lo mc ms) {j : Nat} {b v : Int} (hv : lg lv j = some (vI v)) (hn : j < nL) (d : decode cc pc = .ok (.iinc j b, 3)) (K : J X h (pc + 3) (l1 lv j (vI (v + b))) st k n) : J X h pc lv st k n := fun H locs ls hS hl => by
  obtain ⟨q, hq⟩ := lg_k _ _ _ hv
  exact lv_iinc F.exec F.code d hl hq (Int32.ofInt_add v b).symm (by rw [F.nl]; exact hn) rfl (fun ls' hl' => K H locs ls' hS hl')
theorem j_iadd (F : Fx l G X y cc nL ret fr lo mc ms) {a b : Int} (d : decode cc pc = .ok (.iadd, 1)) (K : J X h (pc + 1) lv (vI (a + b) :: st) k n) : J X h pc lv (vI b :: vI a :: st) k n := fun H locs ls hS hl => by
  have q := K H locs ls hS hl
  rw [vI_add] at q
  exact lv_iadd F.exec F.code d q
theorem j_isub (F : Fx l G X y cc nL ret fr lo mc ms) {a b : Int} (d : decode cc pc = .ok (.isub, 1)) (K : J X h (pc + 1) lv (vI (a - b) :: st) k n) : J X h pc lv (vI b :: vI a :: st) k n := fun H locs ls hS hl => by
  have q := K H locs ls hS hl
  rw [vI_sub] at q
  exact lv_isub F.exec F.code d q
theorem j_imul (F : Fx l G X y cc nL ret fr lo mc ms) {a b : Int} (d : decode cc pc = .ok (.imul, 1)) (K : J X h (pc + 1) lv (vI (a * b) :: st) k n) : J X h pc lv (vI b :: vI a :: st) k n := fun H locs ls hS hl => by
  have q := K H locs ls hS hl
  rw [vI_mul] at q
  exact lv_imul F.exec F.code d q
theorem j_ineg (F : Fx l G X y cc nL ret fr lo mc ms) {a : Int} (d : decode cc pc = .ok (.ineg, 1)) (K : J X h (pc + 1) lv (vI (-a) :: st) k n) : J X h pc lv (vI a :: st) k n := fun H locs ls hS hl => by
  have q := K H locs ls hS hl
  rw [vI_neg] at q
  exact lv_ineg F.exec F.code d q
/-- any other operation on ints, its answer told -/
theorem j_iand (F : Fx l G X y cc nL ret fr lo mc ms) {a b : Int} (v : Int) (hv : Int32.ofInt a &&& Int32.ofInt b = Int32.ofInt v) (d : decode cc pc = .ok (.iand, 1)) (K : J X h (pc + 1) lv (vI v :: st) k n) : J X h pc lv (vI b :: vI a :: st) k n := fun H locs ls hS hl => by
  have q := K H locs ls hS hl
  rw [vI, ← hv] at q
  exact lv_iand F.exec F.code d q
theorem j_ior (F : Fx l G X y cc nL ret fr lo mc ms) {a b : Int} (v : Int) (hv : Int32.ofInt a ||| Int32.ofInt b = Int32.ofInt v) (d : decode cc pc = .ok (.ior, 1)) (K : J X h (pc + 1) lv (vI v :: st) k n) : J X h pc lv (vI b :: vI a :: st) k n := fun H locs ls hS hl => by
  have q := K H locs ls hS hl
  rw [vI, ← hv] at q
  exact lv_ior F.exec F.code d q
theorem j_ixor (F : Fx l G X y cc nL ret fr lo mc ms) {a b : Int} (v : Int) (hv : Int32.ofInt a ^^^ Int32.ofInt b = Int32.ofInt v) (d : decode cc pc = .ok (.ixor, 1)) (K : J X h (pc + 1) lv (vI v :: st) k n) : J X h pc lv (vI b :: vI a :: st) k n := fun H locs ls hS hl => by
  have q := K H locs ls hS hl
  rw [vI, ← hv] at q
  exact lv_ixor F.exec F.code d q
theorem j_ishl (F : Fx l G X y cc nL ret fr lo mc ms) {a b : Int} (v : Int) (hv : Int32.ofInt a <<< (Int32.ofInt b &&& 31) = Int32.ofInt v) (d : decode cc pc = .ok (.ishl, 1)) (K : J X h (pc + 1) lv (vI v :: st) k n) : J X h pc lv (vI b :: vI a :: st) k n := fun H locs ls hS hl => by
  have q := K H locs ls hS hl
  rw [vI, ← hv] at q
  exact lv_ishl F.exec F.code d q
theorem j_ishr (F : Fx l G X y cc nL ret fr lo mc ms) {a b : Int} (v : Int) (hv : Int32.ofInt a >>> (Int32.ofInt b &&& 31) = Int32.ofInt v) (d : decode cc pc = .ok (.ishr, 1)) (K : J X h (pc + 1) lv (vI v :: st) k n) : J X h pc lv (vI b :: vI a :: st) k n := fun H locs ls hS hl => by
  have q := K H locs ls hS hl
  rw [vI, ← hv] at q
  exact lv_ishr F.exec F.code d q
theorem j_iushr (F : Fx l G X y cc nL ret fr lo mc ms) {a b : Int} (v : Int) (hv : ((Int32.ofInt a).toUInt32 >>> ((Int32.ofInt b).toUInt32 &&& Int32.toUInt32 31)).toInt32 = Int32.ofInt v) (d : decode cc pc = .ok (.iushr, 1)) (K : J X h (pc + 1) lv (vI v :: st) k n) : J X h pc lv (vI b :: vI a :: st) k n := fun H locs ls hS hl => by
  have q := K H locs ls hS hl
  exact lv_iushr F.exec F.code d hv q
theorem j_idiv (F : Fx l G X y cc nL ret fr lo mc ms) {a b : Int} (v : Int) (hb : ¬ Int32.ofInt b = 0) (hv : Int32.ofInt a / Int32.ofInt b = Int32.ofInt v) (d : decode cc pc = .ok (.idiv, 1)) (K : J X h (pc + 1) lv (vI v :: st) k n) : J X h pc lv (vI b :: vI a :: st) k n := fun H locs ls hS hl => by
  have q := K H locs ls hS hl
  rw [vI, ← hv] at q
  exact lv_idiv F.exec F.code d hb q
theorem j_i2b (F : Fx l G X y cc nL ret fr lo mc ms) {a : Int} (v : Int) (hv : (Int32.ofInt a).toInt8.toInt32 = Int32.ofInt v) (d : decode cc pc = .ok (.i2b, 1)) (K : J X h (pc + 1) lv (vI v :: st) k n) : J X h pc lv (vI a :: st) k n := fun H locs ls hS hl =>
  lv_i2b F.exec F.code d hv (K H locs ls hS hl)
theorem j_i2c (F : Fx l G X y cc nL ret fr lo mc ms) {a : Int} (v : Int) (hv : ((Int32.ofInt a).toUInt32 % 65536).toInt32 = Int32.ofInt v) (d : decode cc pc = .ok (.i2c, 1)) (K : J X h (pc + 1) lv (vI v :: st) k n) : J X h pc lv (vI a :: st) k n := fun H locs ls hS hl =>
  lv_i2c F.exec F.code d hv (K H locs ls hS hl)
theorem j_i2l (F : Fx l G X y cc nL ret fr lo mc ms) {a : Int} (v : Int64) (hv : (Int32.ofInt a).toInt64 = v) (d : decode cc pc = .ok (.i2l, 1)) (K : J X h (pc + 1) lv (.long v :: st) k n) : J X h pc lv (vI a :: st) k n := fun H locs ls hS hl =>
  lv_i2l F.exec F.code d hv (K H locs ls hS hl)
theorem j_l2i (F : Fx l G X y cc nL ret fr lo mc ms) {a : Int64} (v : Int) (hv : a.toInt32 = Int32.ofInt v) (d : decode cc pc = .ok (.l2i, 1)) (K : J X h (pc + 1) lv (vI v :: st) k n) : J X h pc lv (.long a :: st) k n := fun H locs ls hS hl =>
  lv_l2i F.exec F.code d hv (K H locs ls hS hl)
theorem j_lcmp (F : Fx l G X y cc nL ret fr lo mc ms) {a b : Int64} (v : Int) (hv : lg_cmp a b = Int32.ofInt v) (d : decode cc pc = .ok (.lcmp, 1)) (K : J X h (pc + 1) lv (vI v :: st) k n) : J X h pc lv (.long b :: .long a :: st) k n := fun H locs ls hS hl => by
  have q := K H locs ls hS hl
  rw [vI, ← hv] at q
  exact W.lcmp F.exec F.code d q
theorem j_ladd (F : Fx l G X y cc nL ret fr lo mc ms) {a b : Int64} (d : decode cc pc = .ok (.ladd, 1)) (K : J X h (pc + 1) lv (.long (a + b) :: st) k n) : J X h pc lv (.long b :: .long a :: st) k n := fun H locs ls hS hl =>
  lv_ladd F.exec F.code d (K H locs ls hS hl)
theorem j_lsub (F : Fx l G X y cc nL ret fr lo mc ms) {a b : Int64} (d : decode cc pc = .ok (.lsub, 1)) (K : J X h (pc + 1) lv (.long (a - b) :: st) k n) : J X h pc lv (.long b :: .long a :: st) k n := fun H locs ls hS hl =>
  lv_lsub F.exec F.code d (K H locs ls hS hl)
theorem j_lmul (F : Fx l G X y cc nL ret fr lo mc ms) {a b : Int64} (d : decode cc pc = .ok (.lmul, 1)) (K : J X h (pc + 1) lv (.long (a * b) :: st) k n) : J X h pc lv (.long b :: .long a :: st) k n := fun H locs ls hS hl =>
  lv_lmul F.exec F.code d (K H locs ls hS hl)
theorem j_land (F : Fx l G X y cc nL ret fr lo mc ms) {a b : Int64} (d : decode cc pc = .ok (.land, 1)) (K : J X h (pc + 1) lv (.long (a &&& b) :: st) k n) : J X h pc lv (.long b :: .long a :: st) k n := fun H locs ls hS hl =>
  lv_land F.exec F.code d (K H locs ls hS hl)
theorem j_lor (F : Fx l G X y cc nL ret fr lo mc ms) {a b : Int64} (d : decode cc pc = .ok (.lor, 1)) (K : J X h (pc + 1) lv (.long (a ||| b) :: st) k n) : J X h pc lv (.long b :: .long a :: st) k n := fun H locs ls hS hl =>
  lv_lor F.exec F.code d (K H locs ls hS hl)
theorem j_lxor (F : Fx l G X y cc nL ret fr lo mc ms) {a b : Int64} (d : decode cc pc = .ok (.lxor, 1)) (K : J X h (pc + 1) lv (.long (a ^^^ b) :: st) k n) : J X h pc lv (.long b :: .long a :: st) k n := fun H locs ls hS hl =>
  lv_lxor F.exec F.code d (K H locs ls hS hl)
theorem j_lshl (F : Fx l G X y cc nL ret fr lo mc ms) {a : Int64} {b : Int} (v : Int64) (hv : a <<< ((Int32.ofInt b).toInt64 &&& 63) = v) (d : decode cc pc = .ok (.lshl, 1)) (K : J X h (pc + 1) lv (.long v :: st) k n) : J X h pc lv (vI b :: .long a :: st) k n := fun H locs ls hS hl =>
  lv_lshl F.exec F.code d hv (K H locs ls hS hl)
theorem j_lushr (F : Fx l G X y cc nL ret fr lo mc ms) {a : Int64} {b : Int} (v : Int64) (hv : (a.toUInt64 >>> ((Int32.ofInt b).toInt64.toUInt64 &&& Int64.toUInt64 63)).toInt64 = v) (d : decode cc pc = .ok (.lushr, 1)) (K : J X h (pc + 1) lv (.long v :: st) k n) : J X h pc lv (vI b :: .long a :: st) k n := fun H locs ls hS hl =>
  lv_lushr F.exec F.code d hv (K H locs ls hS hl)
theorem j_dup (F : Fx l G X y cc nL ret fr lo mc ms) {v : Value} (hv : v.category = 1) (d : decode cc pc = .ok (.dup, 1)) (K : J X h (pc + 1) lv (v :: v :: st) k n) : J X h pc lv (v :: st) k n := fun H locs ls hS hl =>
  lv_dup F.exec F.code d hv (K H locs ls hS hl)
theorem j_pop (F : Fx l G X y cc nL ret fr lo mc ms) {v : Value} (hv : v.category = 1) (d : decode cc pc = .ok (.pop, 1)) (K : J X h (pc + 1) lv st k n) : J X h pc lv (v :: st) k n := fun H locs ls hS hl =>
  lv_pop F.exec F.code d hv (K H locs ls hS hl)
theorem j_dup_x1 (F : Fx l G X y cc nL ret fr lo mc ms) {v w : Value} (hv : v.category = 1) (hw : w.category = 1) (d : decode cc pc = .ok (.dup_x1, 1)) (K : J X h (pc + 1) lv (v :: w :: v :: st) k n) : J X h pc lv (v :: w :: st) k n := fun H locs ls hS hl =>
  lv_dup_x1 F.exec F.code d hv hw (K H locs ls hS hl)
theorem j_dup_x2 (F : Fx l G X y cc nL ret fr lo mc ms) {v w z : Value} (hv : v.category = 1) (hw : w.category = 1) (hz : z.category = 1) (d : decode cc pc = .ok (.dup_x2, 1)) (K : J X h (pc + 1) lv (v :: w :: z :: v :: st) k n) : J X h pc lv (v :: w :: z :: st) k n := fun H locs ls hS hl =>
  lv_dup_x2 F.exec F.code d hv hw hz (K H locs ls hS hl)
theorem j_dup2 (F : Fx l G X y cc nL ret fr lo mc ms) {v w : Value} (hv : v.category = 1) (hw : w.category = 1) (d : decode cc pc = .ok (.dup2, 1)) (K : J X h (pc + 1) lv (v :: w :: v :: w :: st) k n) : J X h pc lv (v :: w :: st) k n := fun H locs ls hS hl =>
  lv_dup2_11 F.exec F.code d hv hw (K H locs ls hS hl)
theorem j_goto (F : Fx l G X y cc nL ret fr lo mc ms) {off : Int} (tgt : Nat) (ht : (pc : Int) + off = (tgt : Int)) (d : decode cc pc = .ok (.goto off, 3)) (K : J X h tgt lv st k n) : J X h pc lv st k n := fun H locs ls hS hl =>
  lv_goto F.exec F.code d ht (K H locs ls hS hl)
/-- branches: their conditions over whole numbers -/
theorem j_icmp_eq (F : Fx l G X y cc nL ret fr lo mc ms) {a b : Int} {off : Int} (tgt : Nat) (ht : (pc : Int) + off = (tgt : Int)) (ha : -2147483648 ≤ a ∧ a ≤ 2147483647) (hb : -2147483648 ≤ b ∧ b ≤ 2147483647) (d : decode cc pc = .ok (.if_icmp .eq off, 3)) (K1 : a = b → J X h tgt lv st k n) (K2 : ¬ (a = b) → J X h (pc + 3) lv st k n) : J X h pc lv (vI b :: vI a :: st) k n := fun H locs ls hS hl =>
  lv_icmp_eq F.exec F.code d ht (fun c => K1 ((show _ ↔ a = b from i_eq ha hb).mp c) H locs ls hS hl) (fun c => K2 (fun z => c ((show _ ↔ a = b from i_eq ha hb).mpr z)) H locs ls hS hl)
theorem j_if_eq (F : Fx l G X y cc nL ret fr lo mc ms) {a : Int} {off : Int} (tgt : Nat) (ht : (pc : Int) + off = (tgt : Int)) (ha : -2147483648 ≤ a ∧ a ≤ 2147483647) (d : decode cc pc = .ok (.ifCond .eq off, 3)) (K1 : a = 0 → J X h tgt lv st k n) (K2 : ¬ (a = 0) → J X h (pc + 3) lv st k n) : J X h pc lv (vI a :: st) k n := fun H locs ls hS hl =>
  lv_if_eq F.exec F.code d ht (fun c => K1 ((show _ ↔ a = 0 from i_eq ha (⟨by omega, by omega⟩ : (-2147483648 : Int) ≤ 0 ∧ (0 : Int) ≤ 2147483647)).mp c) H locs ls hS hl) (fun c => K2 (fun z => c ((show _ ↔ a = 0 from i_eq ha (⟨by omega, by omega⟩ : (-2147483648 : Int) ≤ 0 ∧ (0 : Int) ≤ 2147483647)).mpr z)) H locs ls hS hl)
theorem j_icmp_ne (F : Fx l G X y cc nL ret fr lo mc ms) {a b : Int} {off : Int} (tgt : Nat) (ht : (pc : Int) + off = (tgt : Int)) (ha : -2147483648 ≤ a ∧ a ≤ 2147483647) (hb : -2147483648 ≤ b ∧ b ≤ 2147483647) (d : decode cc pc = .ok (.if_icmp .ne off, 3)) (K1 : a ≠ b → J X h tgt lv st k n) (K2 : a = b → J X h (pc + 3) lv st k n) : J X h pc lv (vI b :: vI a :: st) k n := fun H locs ls hS hl =>
  lv_icmp_ne F.exec F.code d ht (fun c => K1 ((show _ ↔ a ≠ b from not_congr (i_eq ha hb)).mp c) H locs ls hS hl) (fun c => K2 ((i_eq ha hb).mp c) H locs ls hS hl)
theorem j_if_ne (F : Fx l G X y cc nL ret fr lo mc ms) {a : Int} {off : Int} (tgt : Nat) (ht : (pc : Int) + off = (tgt : Int)) (ha : -2147483648 ≤ a ∧ a ≤ 2147483647) (d : decode cc pc = .ok (.ifCond .ne off, 3)) (K1 : a ≠ 0 → J X h tgt lv st k n) (K2 : a = 0 → J X h (pc + 3) lv st k n) : J X h pc lv (vI a :: st) k n := fun H locs ls hS hl =>
  lv_if_ne F.exec F.code d ht (fun c => K1 ((show _ ↔ a ≠ 0 from not_congr (i_eq ha (⟨by omega, by omega⟩ : (-2147483648 : Int) ≤ 0 ∧ (0 : Int) ≤ 2147483647))).mp c) H locs ls hS hl) (fun c => K2 ((i_eq ha (⟨by omega, by omega⟩ : (-2147483648 : Int) ≤ 0 ∧ (0 : Int) ≤ 2147483647)).mp c) H locs ls hS hl)
theorem j_icmp_lt (F : Fx l G X y cc nL ret fr lo mc ms) {a b : Int} {off : Int} (tgt : Nat) (ht : (pc : Int) + off = (tgt : Int)) (ha : -2147483648 ≤ a ∧ a ≤ 2147483647) (hb : -2147483648 ≤ b ∧ b ≤ 2147483647) (d : decode cc pc = .ok (.if_icmp .lt off, 3)) (K1 : a < b → J X h tgt lv st k n) (K2 : ¬ (a < b) → J X h (pc + 3) lv st k n) : J X h pc lv (vI b :: vI a :: st) k n := fun H locs ls hS hl =>
  lv_icmp_lt F.exec F.code d ht (fun c => K1 ((show _ ↔ a < b from i_lt ha hb).mp c) H locs ls hS hl) (fun c => K2 (fun z => c ((show _ ↔ a < b from i_lt ha hb).mpr z)) H locs ls hS hl)
theorem j_if_lt (F : Fx l G X y cc nL ret fr lo mc ms) {a : Int} {off : Int} (tgt : Nat) (ht : (pc : Int) + off = (tgt : Int)) (ha : -2147483648 ≤ a ∧ a ≤ 2147483647) (d : decode cc pc = .ok (.ifCond .lt off, 3)) (K1 : a < 0 → J X h tgt lv st k n) (K2 : ¬ (a < 0) → J X h (pc + 3) lv st k n) : J X h pc lv (vI a :: st) k n := fun H locs ls hS hl =>
  lv_if_lt F.exec F.code d ht (fun c => K1 ((show _ ↔ a < 0 from i_lt ha (⟨by omega, by omega⟩ : (-2147483648 : Int) ≤ 0 ∧ (0 : Int) ≤ 2147483647)).mp c) H locs ls hS hl) (fun c => K2 (fun z => c ((show _ ↔ a < 0 from i_lt ha (⟨by omega, by omega⟩ : (-2147483648 : Int) ≤ 0 ∧ (0 : Int) ≤ 2147483647)).mpr z)) H locs ls hS hl)
theorem j_icmp_ge (F : Fx l G X y cc nL ret fr lo mc ms) {a b : Int} {off : Int} (tgt : Nat) (ht : (pc : Int) + off = (tgt : Int)) (ha : -2147483648 ≤ a ∧ a ≤ 2147483647) (hb : -2147483648 ≤ b ∧ b ≤ 2147483647) (d : decode cc pc = .ok (.if_icmp .ge off, 3)) (K1 : b ≤ a → J X h tgt lv st k n) (K2 : ¬ (b ≤ a) → J X h (pc + 3) lv st k n) : J X h pc lv (vI b :: vI a :: st) k n := fun H locs ls hS hl =>
  lv_icmp_ge F.exec F.code d ht (fun c => K1 ((show _ ↔ b ≤ a from i_le hb ha).mp c) H locs ls hS hl) (fun c => K2 (fun z => c ((show _ ↔ b ≤ a from i_le hb ha).mpr z)) H locs ls hS hl)
theorem j_if_ge (F : Fx l G X y cc nL ret fr lo mc ms) {a : Int} {off : Int} (tgt : Nat) (ht : (pc : Int) + off = (tgt : Int)) (ha : -2147483648 ≤ a ∧ a ≤ 2147483647) (d : decode cc pc = .ok (.ifCond .ge off, 3)) (K1 : 0 ≤ a → J X h tgt lv st k n) (K2 : ¬ (0 ≤ a) → J X h (pc + 3) lv st k n) : J X h pc lv (vI a :: st) k n := fun H locs ls hS hl =>
  lv_if_ge F.exec F.code d ht (fun c => K1 ((show _ ↔ 0 ≤ a from i_le (⟨by omega, by omega⟩ : (-2147483648 : Int) ≤ 0 ∧ (0 : Int) ≤ 2147483647) ha).mp c) H locs ls hS hl) (fun c => K2 (fun z => c ((show _ ↔ 0 ≤ a from i_le (⟨by omega, by omega⟩ : (-2147483648 : Int) ≤ 0 ∧ (0 : Int) ≤ 2147483647) ha).mpr z)) H locs ls hS hl)
theorem j_icmp_gt (F : Fx l G X y cc nL ret fr lo mc ms) {a b : Int} {off : Int} (tgt : Nat) (ht : (pc : Int) + off = (tgt : Int)) (ha : -2147483648 ≤ a ∧ a ≤ 2147483647) (hb : -2147483648 ≤ b ∧ b ≤ 2147483647) (d : decode cc pc = .ok (.if_icmp .gt off, 3)) (K1 : b < a → J X h tgt lv st k n) (K2 : ¬ (b < a) → J X h (pc + 3) lv st k n) : J X h pc lv (vI b :: vI a :: st) k n := fun H locs ls hS hl =>
  lv_icmp_gt F.exec F.code d ht (fun c => K1 ((show _ ↔ b < a from i_lt hb ha).mp c) H locs ls hS hl) (fun c => K2 (fun z => c ((show _ ↔ b < a from i_lt hb ha).mpr z)) H locs ls hS hl)
theorem j_if_gt (F : Fx l G X y cc nL ret fr lo mc ms) {a : Int} {off : Int} (tgt : Nat) (ht : (pc : Int) + off = (tgt : Int)) (ha : -2147483648 ≤ a ∧ a ≤ 2147483647) (d : decode cc pc = .ok (.ifCond .gt off, 3)) (K1 : 0 < a → J X h tgt lv st k n) (K2 : ¬ (0 < a) → J X h (pc + 3) lv st k n) : J X h pc lv (vI a :: st) k n := fun H locs ls hS hl =>
  lv_if_gt F.exec F.code d ht (fun c => K1 ((show _ ↔ 0 < a from i_lt (⟨by omega, by omega⟩ : (-2147483648 : Int) ≤ 0 ∧ (0 : Int) ≤ 2147483647) ha).mp c) H locs ls hS hl) (fun c => K2 (fun z => c ((show _ ↔ 0 < a from i_lt (⟨by omega, by omega⟩ : (-2147483648 : Int) ≤ 0 ∧ (0 : Int) ≤ 2147483647) ha).mpr z)) H locs ls hS hl)
theorem j_icmp_le (F : Fx l G X y cc nL ret fr lo mc ms) {a b : Int} {off : Int} (tgt : Nat) (ht : (pc : Int) + off = (tgt : Int)) (ha : -2147483648 ≤ a ∧ a ≤ 2147483647) (hb : -2147483648 ≤ b ∧ b ≤ 2147483647) (d : decode cc pc = .ok (.if_icmp .le off, 3)) (K1 : a ≤ b → J X h tgt lv st k n) (K2 : ¬ (a ≤ b) → J X h (pc + 3) lv st k n) : J X h pc lv (vI b :: vI a :: st) k n := fun H locs ls hS hl =>
  lv_icmp_le F.exec F.code d ht (fun c => K1 ((show _ ↔ a ≤ b from i_le ha hb).mp c) H locs ls hS hl) (fun c => K2 (fun z => c ((show _ ↔ a ≤ b from i_le ha hb).mpr z)) H locs ls hS hl)
theorem j_if_le (F : Fx l G X y cc nL ret fr lo mc ms) {a : Int} {off : Int} (tgt : Nat) (ht : (pc : Int) + off = (tgt : Int)) (ha : -2147483648 ≤ a ∧ a ≤ 2147483647) (d : decode cc pc = .ok (.ifCond .le off, 3)) (K1 : a ≤ 0 → J X h tgt lv st k n) (K2 : ¬ (a ≤ 0) → J X h (pc + 3) lv st k n) : J X h pc lv (vI a :: st) k n := fun H locs ls hS hl =>
  lv_if_le F.exec F.code d ht (fun c => K1 ((show _ ↔ a ≤ 0 from i_le ha (⟨by omega, by omega⟩ : (-2147483648 : Int) ≤ 0 ∧ (0 : Int) ≤ 2147483647)).mp c) H locs ls hS hl) (fun c => K2 (fun z => c ((show _ ↔ a ≤ 0 from i_le ha (⟨by omega, by omega⟩ : (-2147483648 : Int) ≤ 0 ∧ (0 : Int) ≤ 2147483647)).mpr z)) H locs ls hS hl)
theorem j_ifnull (F : Fx l G X y cc nL ret fr lo mc ms) {o : Option Nat} {off : Int} (tgt : Nat) (ht : (pc : Int) + off = (tgt : Int)) (d : decode cc pc = .ok (.ifnull off, 3)) (K1 : o = none → J X h tgt lv st k n) (K2 : ∀ a : Nat, o = some a → J X h (pc + 3) lv st k n) : J X h pc lv (va_rf o :: st) k n := fun H locs ls hS hl => by
  cases o with
  | none => exact lv_ifnullN F.exec F.code d ht (K1 rfl H locs ls hS hl)
  | some a => exact lv_ifnull F.exec F.code d (K2 a rfl H locs ls hS hl)
theorem j_ifnonnull (F : Fx l G X y cc nL ret fr lo mc ms) {o : Option Nat} {off : Int} (tgt : Nat) (ht : (pc : Int) + off = (tgt : Int)) (d : decode cc pc = .ok (.ifnonnull off, 3)) (K1 : ∀ a : Nat, o = some a → J X h tgt lv st k n) (K2 : o = none → J X h (pc + 3) lv st k n) : J X h pc lv (va_rf o :: st) k n := fun H locs ls hS hl => by
  cases o with
  | none => exact lv_ifnonnullN F.exec F.code d (K2 rfl H locs ls hS hl)
  | some a => exact lv_ifnonnull F.exec F.code d ht (K1 a rfl H locs ls hS hl)
end JR
