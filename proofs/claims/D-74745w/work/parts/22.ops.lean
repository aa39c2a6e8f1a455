/-! switches -/
section JSW
variable {l : Launch} {G : Gt} {X : Cx} {y : MethodName} {cc : ByteArray} {nL : Nat} {ret : Option FieldType} {fr lo mc ms : Nat} {h : Hp} {pc : Nat} {lv : List (Nat × Value)} {st : List Value} {k n : Nat}
theorem j_tswI (F : Fx l G X y cc nL ret fr lo mc ms) {dflt lo9 hi9 : Int} {offs : Array Int} {len : Nat} {a off : Int} (tgt : Nat) (ht : (pc : Int) + off = (tgt : Int)) (ha : -2147483648 ≤ a ∧ a ≤ 2147483647) (h1 : lo9 ≤ a) (h2 : a ≤ hi9) (ho : offs[(a - lo9).toNat]? = some off) (d : decode cc pc = .ok (.tableswitch dflt lo9 hi9 offs, len)) (K : J X h tgt lv st k n) : J X h pc lv (vI a :: st) k n := fun H locs ls hS hl => by
  have e := i_toInt ha
  exact lv_tableIn F.exec F.code d (by rw [e]; omega) (by rw [e]; omega) (by rw [e]; exact ho) ht (K H locs ls hS hl)
theorem j_tswO (F : Fx l G X y cc nL ret fr lo mc ms) {dflt lo9 hi9 : Int} {offs : Array Int} {len : Nat} {a : Int} (tgt : Nat) (ht : (pc : Int) + dflt = (tgt : Int)) (ha : -2147483648 ≤ a ∧ a ≤ 2147483647) (h1 : a < lo9 ∨ hi9 < a) (d : decode cc pc = .ok (.tableswitch dflt lo9 hi9 offs, len)) (K : J X h tgt lv st k n) : J X h pc lv (vI a :: st) k n := fun H locs ls hS hl => by
  have e := i_toInt ha
  exact lv_tableOut F.exec F.code d (by rw [e]; exact h1) ht (K H locs ls hS hl)
end JSW
/-! what the public methods do to the row: said once, for the class and for its reference -/
/-- add, assume: b where the literals lie, j where their number is -/
def Spt (b j : Int) (R : Int → Int) (a v : Int) (R' : Int → Int) : Prop := ((R j = 8 ∨ ¬ lok (R 0) a ∨ thr R b (R j) a) → v = -1 ∧ R' = R) ∧ (¬ (R j = 8 ∨ ¬ lok (R 0) a ∨ thr R b (R j) a) → v = R j + 1 ∧ R' = oI (oI R (b + R j) a) j (R j + 1))
/-- n literals g laid at the clause c -/
def putL (R : Int → Int) (c n : Int) (g : Int → Int) : Int → Int := fun j => if 1326 + 30 * c ≤ j ∧ j < 1326 + 30 * c + n then g (j - (1326 + 30 * c)) else R j
theorem putL_0 (R : Int → Int) (c : Int) (g : Int → Int) : putL R c 0 g = R := funext fun j => if_neg (by omega)
theorem putL_s {R : Int → Int} {c i w : Int} {g : Int → Int} (hi : 0 ≤ i) (hw : w = g i) : oI (putL R c i g) (1326 + 30 * c + i) w = putL R c (i + 1) g := by
  funext j
  unfold oI putL
  by_cases e : j = 1326 + 30 * c + i
  · rw [if_pos e, if_pos (by omega), hw, show j - (1326 + 30 * c) = i by omega]
  · rw [if_neg e]
    by_cases e2 : 1326 + 30 * c ≤ j ∧ j < 1326 + 30 * c + i
    · rw [if_pos e2, if_pos (by omega)]
    · rw [if_neg e2, if_neg (by omega)]
theorem putL_n {R : Int → Int} {c n j : Int} {g : Int → Int} (h : j < 1326 + 30 * c ∨ 1326 + 30 * c + n ≤ j) : putL R c n g j = R j := if_neg (by omega)
def Sclose (R : Int → Int) (v : Int) (R' : Int → Int) : Prop := (R 4 = 0 ∨ ¬ (R 2 < 80 ∧ R 1 < 400) → v = -1 ∧ R' = R) ∧ (¬ (R 4 = 0 ∨ ¬ (R 2 < 80 ∧ R 1 < 400)) → v = R 1 ∧ R' = oI (putL (bgR R 0 (R 4)) (R 1) (R 4) (fun k => R (24 + k))) 4 0)
def Sphase (R : Int → Int) (a v : Int) (R' : Int → Int) : Prop := ((¬ lok (R 0) a ∨ R (32 + iab a) = (if 0 < a then 1 else 0)) → v = 0 ∧ R' = R) ∧ (¬ (¬ lok (R 0) a ∨ R (32 + iab a) = (if 0 < a then 1 else 0)) → v = 1 ∧ R' = oI R (32 + iab a) (if 0 < a then 1 else 0))
def Sunit (R : Int → Int) (a v : Int) (R' : Int → Int) : Prop := (¬ (0 ≤ a ∧ a ≤ 50) ∨ R 5 = a → v = 0 ∧ R' = R) ∧ (¬ (¬ (0 ≤ a ∧ a ≤ 50) ∨ R 5 = a) → v = 1 ∧ R' = oI R 5 a)
/-- learnt clauses longer than a are gone: of the first i -/
def fgR (R : Int → Int) (a i : Int) : Int → Int := fun j => if 525 ≤ j ∧ j < 525 + i ∧ R j = 1 ∧ a < R (j - 400) then 3 else R j
def fgN (R : Int → Int) (a : Int) : Nat → Int
  | 0 => 0
  | n + 1 => fgN R a n + (if flg R n = 1 ∧ a < siz R n then 1 else 0)
theorem fgN_rg (R : Int → Int) (a : Int) : ∀ n : Nat, 0 ≤ fgN R a n ∧ fgN R a n ≤ n
  | 0 => by simp [fgN]
  | n + 1 => by
    have := fgN_rg R a n
    unfold fgN
    split <;> omega
theorem fgN_s {R : Int → Int} {a i : Int} (hi : 0 ≤ i) : fgN R a (i + 1).toNat = fgN R a i.toNat + (if flg R i = 1 ∧ a < siz R i then 1 else 0) := by
  have e : (i + 1).toNat = i.toNat + 1 := by omega
  rw [e, fgN, Int.toNat_of_nonneg hi]
theorem fgR_t {R : Int → Int} {a i : Int} (hi : 0 ≤ i) (h : flg R i = 1 ∧ a < siz R i) : oI (fgR R a i) (525 + i) 3 = fgR R a (i + 1) := by
  unfold flg siz at h
  funext j
  unfold oI fgR
  by_cases e : j = 525 + i
  · rw [if_pos e, if_pos (by subst e; exact ⟨by omega, by omega, h.1, by rw [show 525 + i - 400 = 125 + i by omega]; exact h.2⟩)]
  · rw [if_neg e]
    by_cases e2 : 525 ≤ j ∧ j < 525 + i ∧ R j = 1 ∧ a < R (j - 400)
    · rw [if_pos e2, if_pos (by omega)]
    · rw [if_neg e2, if_neg (by omega)]
theorem fgR_f {R : Int → Int} {a i : Int} (h : ¬ (flg R i = 1 ∧ a < siz R i)) : fgR R a (i + 1) = fgR R a i := by
  unfold flg siz at h
  funext j
  unfold fgR
  by_cases e : j = 525 + i
  · subst e
    rw [if_neg (by rw [show 525 + i - 400 = 125 + i by omega]; omega), if_neg (by omega)]
  · by_cases e2 : 525 ≤ j ∧ j < 525 + i ∧ R j = 1 ∧ a < R (j - 400)
    · rw [if_pos e2, if_pos (by omega)]
    · rw [if_neg e2, if_neg (by omega)]
def Sforget (R : Int → Int) (a v : Int) (R' : Int → Int) : Prop := (¬ (1 ≤ a ∧ a ≤ 30) → v = -1 ∧ R' = R) ∧ (1 ≤ a ∧ a ≤ 30 → v = fgN R a (R 1).toNat ∧ R' = fgR R a (R 1))
/-- what is kept: n numbers of the row R laid from b on -/
def kpF (K : Int → Int) (b n : Int) (R : Int → Int) : Int → Int := fun j => if b ≤ j ∧ j < b + n then R (j - b) else K j
theorem kpF_0 (K : Int → Int) (b : Int) (R : Int → Int) : kpF K b 0 R = K := funext fun j => if_neg (by omega)
theorem kpF_s {K R : Int → Int} {b i w : Int} (hi : 0 ≤ i) (hw : w = R i) : oI (kpF K b i R) (b + i) w = kpF K b (i + 1) R := by
  funext j
  unfold oI kpF
  by_cases e : j = b + i
  · rw [if_pos e, if_pos (by omega), hw, show j - b = i by omega]
  · rw [if_neg e]
    by_cases e2 : b ≤ j ∧ j < b + i
    · rw [if_pos e2, if_pos (by omega)]
    · rw [if_neg e2, if_neg (by omega)]
def amF (R : Int → Int) (a c : Int) : Nat → Int
  | 0 => 0
  | n + 1 => amF R a c n + (if iab (lit R c n) = a then 1 else 0)
/-- in how many clauses that are not gone a variable stands (each once) -/
def amN (R : Int → Int) (a : Int) : Nat → Int
  | 0 => 0
  | n + 1 => amN R a n + (if 2 ≤ flg R n then 0 else amF R a n (siz R n).toNat)
theorem amF_rg (R : Int → Int) (a c : Int) : ∀ n : Nat, 0 ≤ amF R a c n ∧ amF R a c n ≤ n
  | 0 => by simp [amF]
  | n + 1 => by
    have := amF_rg R a c n
    unfold amF
    split <;> omega
theorem amF_s {R : Int → Int} {a c i : Int} (hi : 0 ≤ i) : amF R a c (i + 1).toNat = amF R a c i.toNat + (if iab (lit R c i) = a then 1 else 0) := by
  have e : (i + 1).toNat = i.toNat + 1 := by omega
  rw [e, amF, Int.toNat_of_nonneg hi]
theorem amN_s {R : Int → Int} {a i : Int} (hi : 0 ≤ i) : amN R a (i + 1).toNat = amN R a i.toNat + (if 2 ≤ flg R i then 0 else amF R a i (siz R i).toNat) := by
  have e : (i + 1).toNat = i.toNat + 1 := by omega
  rw [e, amN, Int.toNat_of_nonneg hi]
/-- how many learnt clauses are not gone -/
def leN (R : Int → Int) : Nat → Int
  | 0 => 0
  | n + 1 => leN R n + (if flg R n = 1 then 1 else 0)
theorem leN_s {R : Int → Int} {i : Int} (hi : 0 ≤ i) : leN R (i + 1).toNat = leN R i.toNat + (if flg R i = 1 then 1 else 0) := by
  have e : (i + 1).toNat = i.toNat + 1 := by omega
  rw [e, leN, Int.toNat_of_nonneg hi]
def lnS (R : Int → Int) (k : Int) : Int := if R (925 + k) = -1 then 0 else siz R (R (925 + k))
def Scount (R : Int → Int) (tp a v : Int) : Prop := v = if a = 0 then R 0 else if a = 1 then R 1 else if a = 2 then R 2 else if a = 3 then leN R (R 1).toNat else if a = 4 then R 3 else if a = 5 then R 4 else if a = 6 then R 5 else if a = 7 then R 6 else if a = 8 then R 7 else if a = 9 then tp else if a = 10 then R 8 else if a = 11 then R 9 else if a = 12 then R 10 else if a = 13 then R 11 else if a = 14 then R 12 else -1
/-- a clause's cell: the value, and whether it is refused -/
def Sclause (R : Int → Int) (c a v th : Int) : Prop := (¬ (0 ≤ c ∧ c ≤ R 1 - 1 ∧ -3 ≤ a ∧ a ≤ siz R c - 1) → th = 1) ∧ ((0 ≤ c ∧ c ≤ R 1 - 1 ∧ -3 ≤ a ∧ a ≤ siz R c - 1) → th = 0 ∧ v = if a = -1 then siz R c else if a = -2 then (if flg R c = 1 ∨ flg R c = 3 then 1 else 0) else if a = -3 then (if 2 ≤ flg R c then 1 else 0) else lit R c a)
def Svariable (R : Int → Int) (a b v : Int) : Prop := v = if ¬ (1 ≤ a ∧ a ≤ R 0) then -1 else if b = 0 then R (32 + a) else if b = 1 then R (63 + a) else if b = 2 then amN R a (R 1).toNat else -1
def Sline (R : Int → Int) (a b v : Int) : Prop := v = if 0 ≤ a ∧ a ≤ R 6 - 1 ∧ -1 ≤ b ∧ b ≤ lnS R a - 1 then (if b = -1 then lnS R a else lit R (R (925 + a)) b) else -100
