/-! PURE WORDS of the laws -/
noncomputable def cif {α : Type} (p : Prop) (a b : α) : α := @ite α p (Classical.propDecidable p) a b
theorem cif_t {α : Type} {p : Prop} {a b : α} (h : p) : cif p a b = a := by unfold cif; rw [if_pos h]
theorem cif_f {α : Type} {p : Prop} {a b : α} (h : ¬ p) : cif p a b = b := by unfold cif; rw [if_neg h]
/-- how many k < n with f k = v -/
def cnt (f : Int → Int) (v : Int) : Nat → Int
  | 0 => 0
  | n + 1 => cnt f v n + (if f (n : Int) = v then 1 else 0)
theorem cnt_rg (f : Int → Int) (v : Int) : ∀ n : Nat, 0 ≤ cnt f v n ∧ cnt f v n ≤ n
  | 0 => by simp [cnt]
  | n + 1 => by
    have := cnt_rg f v n
    unfold cnt
    split <;> omega
theorem cnt_s {f : Int → Int} {v i : Int} (hi : 0 ≤ i) : cnt f v (i + 1).toNat = cnt f v i.toNat + (if f i = v then 1 else 0) := by
  have e : (i + 1).toNat = i.toNat + 1 := by omega
  rw [e]
  show _ + (if f (i.toNat : Int) = v then 1 else 0) = _
  rw [Int.toNat_of_nonneg hi]
theorem cnt_rgi (f : Int → Int) (v : Int) {i : Int} (hi : 0 ≤ i) : 0 ≤ cnt f v i.toNat ∧ cnt f v i.toNat ≤ i := by
  have := cnt_rg f v i.toNat
  omega
/-- the least of 0 .. n - 1 with p; none: -1 -/
noncomputable def lst (p : Int → Prop) (n : Int) : Int := cif (∃ c : Int, 0 ≤ c ∧ c < n ∧ p c) (Classical.epsilon (fun c : Int => 0 ≤ c ∧ c < n ∧ p c ∧ ∀ d : Int, 0 ≤ d → d < c → ¬ p d)) (-1)
theorem lst_none {p : Int → Prop} {n : Int} (h : ∀ c : Int, 0 ≤ c → c < n → ¬ p c) : lst p n = -1 := cif_f (fun ⟨c, h1, h2, h3⟩ => h c h1 h2 h3)
theorem lst_at {p : Int → Prop} {n v : Int} (h0 : 0 ≤ v) (h1 : v < n) (h2 : p v) (h3 : ∀ d : Int, 0 ≤ d → d < v → ¬ p d) : lst p n = v := by
  have hex : ∃ c : Int, 0 ≤ c ∧ c < n ∧ p c ∧ ∀ d : Int, 0 ≤ d → d < c → ¬ p d := ⟨v, h0, h1, h2, h3⟩
  unfold lst
  rw [cif_t ⟨v, h0, h1, h2⟩]
  obtain ⟨q0, q1, q2, q3⟩ := Classical.epsilon_spec hex
  generalize Classical.epsilon (fun c : Int => 0 ≤ c ∧ c < n ∧ p c ∧ ∀ d : Int, 0 ≤ d → d < c → ¬ p d) = w at q0 q1 q2 q3
  rcases Int.lt_trichotomy w v with h | h | h
  · exact absurd q2 (h3 w q0 h)
  · exact h
  · exact absurd h2 (q3 v h0 h)
theorem least_ex {p : Int → Prop} : ∀ (m : Nat) (c : Int), 0 ≤ c → c < m → p c → ∃ v : Int, 0 ≤ v ∧ v ≤ c ∧ p v ∧ ∀ d : Int, 0 ≤ d → d < v → ¬ p d := by
  intro m
  induction m with
  | zero => intro c h0 h1; omega
  | succ m ih =>
    intro c h0 h1 hp
    by_cases hq : ∃ d : Int, 0 ≤ d ∧ d < c ∧ p d
    · obtain ⟨d, d0, d1, d2⟩ := hq
      obtain ⟨v, v0, v1, v2, v3⟩ := ih d d0 (by omega) d2
      exact ⟨v, v0, by omega, v2, v3⟩
    · exact ⟨c, h0, Int.le_refl _, hp, fun d d0 d1 d2 => hq ⟨d, d0, d1, d2⟩⟩
theorem lst_cases (p : Int → Prop) (n : Int) : (lst p n = -1 ∧ ∀ c : Int, 0 ≤ c → c < n → ¬ p c) ∨ (0 ≤ lst p n ∧ lst p n < n ∧ p (lst p n) ∧ ∀ d : Int, 0 ≤ d → d < lst p n → ¬ p d) := by
  by_cases hq : ∃ c : Int, 0 ≤ c ∧ c < n ∧ p c
  · obtain ⟨c, c0, c1, c2⟩ := hq
    obtain ⟨v, v0, v1, v2, v3⟩ := least_ex (c.toNat + 1) c c0 (by omega) c2
    have e := lst_at v0 (by omega : v < n) v2 v3
    rw [e]
    exact Or.inr ⟨v0, by omega, v2, v3⟩
  · have h : ∀ c : Int, 0 ≤ c → c < n → ¬ p c := fun c c0 c1 c2 => hq ⟨c, c0, c1, c2⟩
    exact Or.inl ⟨lst_none h, h⟩
/-- a literal's truth by the values s of variables -/
def trv (s : Int → Int) (l : Int) : Int := if 0 < l then s l else -(s (-l))
def lit (R : Int → Int) (c k : Int) : Int := R (1326 + 30 * c + k)
def siz (R : Int → Int) (c : Int) : Int := R (125 + c)
def flg (R : Int → Int) (c : Int) : Int := R (525 + c)
/-- how many literals of a clause are open, none being true; else 31 -/
noncomputable def opn (R s : Int → Int) (c : Int) : Int := cif (∃ k : Int, 0 ≤ k ∧ k < siz R c ∧ 0 < trv s (lit R c k)) 31 (cnt (fun k => trv s (lit R c k)) 0 (siz R c).toNat)
noncomputable def fst9 (R s : Int → Int) (many : Int) : Int := lst (fun c => ¬ 2 ≤ flg R c ∧ opn R s c = many) (R 1)
noncomputable def opo (R s : Int → Int) (c : Int) : Int := cif (lst (fun k => trv s (lit R c k) = 0) (siz R c) = -1) 0 (lit R c (lst (fun k => trv s (lit R c k) = 0) (siz R c)))
/-- the variables' values are -1, 0, 1 -/
def s3 (s : Int → Int) : Prop := ∀ v : Int, 0 ≤ v → v ≤ 30 → -1 ≤ s v ∧ s v ≤ 1
theorem trv_rg {s : Int → Int} (h : s3 s) {l : Int} (hl : -30 ≤ l ∧ l ≤ 30) : -1 ≤ trv s l ∧ trv s l ≤ 1 := by
  unfold trv
  split
  · exact h l (by omega) (by omega)
  · have := h (-l) (by omega) (by omega)
    omega
/-- what always holds of the row -/
def RI (R : Int → Int) : Prop := (0 ≤ R 0 ∧ R 0 ≤ 30) ∧ (0 ≤ R 1 ∧ R 1 ≤ 400) ∧ (0 ≤ R 2 ∧ R 2 ≤ 80) ∧ (0 ≤ R 3 ∧ R 3 ≤ 8) ∧ (0 ≤ R 4 ∧ R 4 ≤ 8) ∧ (0 ≤ R 5 ∧ R 5 ≤ 50) ∧ (0 ≤ R 6 ∧ R 6 ≤ R 1 + R 7) ∧ (R 7 = 0 ∨ R 7 = 1) ∧ (-1 ≤ R 14 ∧ R 14 ≤ 30) ∧
  (∀ k : Int, 0 ≤ k → k < R 3 → lok (R 0) (R (16 + k))) ∧ (∀ k : Int, 0 ≤ k → k < R 4 → lok (R 0) (R (24 + k))) ∧ (∀ v : Int, 0 ≤ v → v ≤ 30 → (R (32 + v) = 0 ∨ R (32 + v) = 1)) ∧ (∀ v : Int, 0 ≤ v → v ≤ 30 → 0 ≤ R (63 + v) ∧ R (63 + v) ≤ 112) ∧
  (∀ c : Int, 0 ≤ c → c < R 1 → 1 ≤ siz R c ∧ siz R c ≤ 30 ∧ 0 ≤ flg R c ∧ flg R c ≤ 3 ∧ ∀ k : Int, 0 ≤ k → k < siz R c → lok (R 0) (lit R c k)) ∧
  (∀ k : Int, 0 ≤ k → k < R 6 → R (925 + k) = -1 ∨ (0 ≤ R (925 + k) ∧ R (925 + k) < R 1)) ∧
  (∀ c : Int, 0 ≤ c → c < R 1 → ∀ i j : Int, 0 ≤ i → i < siz R c → 0 ≤ j → j < siz R c → iab (lit R c i) = iab (lit R c j) → i = j) ∧
  (∀ i j : Int, 0 ≤ i → i < R 3 → 0 ≤ j → j < R 3 → iab (R (16 + i)) = iab (R (16 + j)) → i = j) ∧
  (∀ i j : Int, 0 ≤ i → i < R 4 → 0 ≤ j → j < R 4 → iab (R (24 + i)) = iab (R (24 + j)) → i = j)
theorem RI.V {R : Int → Int} (h : RI R) : 0 ≤ R 0 ∧ R 0 ≤ 30 := h.1
theorem RI.many {R : Int → Int} (h : RI R) : 0 ≤ R 1 ∧ R 1 ≤ 400 := h.2.1
theorem RI.told {R : Int → Int} (h : RI R) : 0 ≤ R 2 ∧ R 2 ≤ 80 := h.2.2.1
theorem RI.as {R : Int → Int} (h : RI R) : 0 ≤ R 3 ∧ R 3 ≤ 8 := h.2.2.2.1
theorem RI.ad {R : Int → Int} (h : RI R) : 0 ≤ R 4 ∧ R 4 ≤ 8 := h.2.2.2.2.1
theorem RI.each {R : Int → Int} (h : RI R) : 0 ≤ R 5 ∧ R 5 ≤ 50 := h.2.2.2.2.2.1
theorem RI.lines {R : Int → Int} (h : RI R) : 0 ≤ R 6 ∧ R 6 ≤ R 1 + R 7 := h.2.2.2.2.2.2.1
theorem RI.ref {R : Int → Int} (h : RI R) : R 7 = 0 ∨ R 7 = 1 := h.2.2.2.2.2.2.2.1
theorem RI.mv {R : Int → Int} (h : RI R) : -1 ≤ R 14 ∧ R 14 ≤ 30 := h.2.2.2.2.2.2.2.2.1
theorem RI.asl {R : Int → Int} (h : RI R) {k : Int} (h0 : 0 ≤ k) (h1 : k < R 3) : lok (R 0) (R (16 + k)) := h.2.2.2.2.2.2.2.2.2.1 k h0 h1
theorem RI.adl {R : Int → Int} (h : RI R) {k : Int} (h0 : 0 ≤ k) (h1 : k < R 4) : lok (R 0) (R (24 + k)) := h.2.2.2.2.2.2.2.2.2.2.1 k h0 h1
theorem RI.ph {R : Int → Int} (h : RI R) {v : Int} (h0 : 0 ≤ v) (h1 : v ≤ 30) : R (32 + v) = 0 ∨ R (32 + v) = 1 := h.2.2.2.2.2.2.2.2.2.2.2.1 v h0 h1
theorem RI.sc {R : Int → Int} (h : RI R) {v : Int} (h0 : 0 ≤ v) (h1 : v ≤ 30) : 0 ≤ R (63 + v) ∧ R (63 + v) ≤ 112 := h.2.2.2.2.2.2.2.2.2.2.2.2.1 v h0 h1
theorem RI.cl {R : Int → Int} (h : RI R) {c : Int} (h0 : 0 ≤ c) (h1 : c < R 1) : 1 ≤ siz R c ∧ siz R c ≤ 30 ∧ 0 ≤ flg R c ∧ flg R c ≤ 3 ∧ ∀ k : Int, 0 ≤ k → k < siz R c → lok (R 0) (lit R c k) := h.2.2.2.2.2.2.2.2.2.2.2.2.2.1 c h0 h1
theorem RI.ln {R : Int → Int} (h : RI R) {k : Int} (h0 : 0 ≤ k) (h1 : k < R 6) : R (925 + k) = -1 ∨ (0 ≤ R (925 + k) ∧ R (925 + k) < R 1) := h.2.2.2.2.2.2.2.2.2.2.2.2.2.2.1 k h0 h1
theorem RI.ll {R : Int → Int} (h : RI R) {c k : Int} (h0 : 0 ≤ c) (h1 : c < R 1) (k0 : 0 ≤ k) (k1 : k < siz R c) : lit R c k ≠ 0 ∧ -30 ≤ lit R c k ∧ lit R c k ≤ 30 := by
  have a := (h.cl h0 h1).2.2.2.2 k k0 k1
  have b := h.V
  unfold lok at a
  omega
theorem opn_31 {R s : Int → Int} {c k : Int} (h0 : 0 ≤ k) (h1 : k < siz R c) (h2 : 0 < trv s (lit R c k)) : opn R s c = 31 := cif_t ⟨k, h0, h1, h2⟩
theorem opn_n {R s : Int → Int} {c : Int} (h : ∀ k : Int, 0 ≤ k → k < siz R c → ¬ 0 < trv s (lit R c k)) : opn R s c = cnt (fun k => trv s (lit R c k)) 0 (siz R c).toNat := cif_f (fun ⟨k, h0, h1, h2⟩ => h k h0 h1 h2)
theorem opn_rg {R s : Int → Int} {c : Int} (h : 0 ≤ siz R c ∧ siz R c ≤ 30) : 0 ≤ opn R s c ∧ opn R s c ≤ 31 := by
  by_cases q : ∃ k : Int, 0 ≤ k ∧ k < siz R c ∧ 0 < trv s (lit R c k)
  · obtain ⟨k, k0, k1, k2⟩ := q
    rw [opn_31 k0 k1 k2]
    omega
  · rw [opn_n (fun k k0 k1 k2 => q ⟨k, k0, k1, k2⟩)]
    have := cnt_rg (fun k => trv s (lit R c k)) 0 (siz R c).toNat
    omega
