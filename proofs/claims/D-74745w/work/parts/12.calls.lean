/-! CALLS by contract -/
section JC
variable {l : Launch} {G : Gt} {X : Cx} {y : MethodName} {cc : ByteArray} {nL : Nat} {ret : Option FieldType} {fr lo mc ms : Nat} {h : Hp} {pc : Nat} {lv : List (Nat × Value)} {st : List Value} {k n : Nat}
variable {y2 : MethodName} {cc2 : ByteArray} {nL2 : Nat} {ret2 : Option FieldType} {fr2 lo2 mc2 ms2 : Nat} {post : Option Value → Hp → Prop} {As rest : List Value} {idx : Nat}
theorem j_run (F : Fx l G X y cc nL ret fr lo mc ms) {a : Array Value} (hr : ∀ (H : Heap) (locs : List Loc) (ls : Array Slot), Sh (xG X) h H locs → lv_has ls (xnL X) lv → va_Run (xp X) (xl X) (xe X) (xR X) (xs X) (xm X) (xargs X) (xbelow X) (xmeth X) (xc X) H locs k n mc2 ms2 (F0 (xm X) pc ls st) rest (hQ G post a) (fun q => gN G ≤ q))
    (K : ∀ (r : Option Value) (h' : Hp), post r h' → J X h' (pc + 3) lv (r.toList ++ rest) (k + mc2) (n + ms2)) : J X h pc lv st k n := by
  intro H locs ls hS hl T hT St
  obtain ⟨v, st₀, t, T', L, h0, X', hL, e1, e2, ⟨r, h', hv, hp, hS'⟩, hst⟩ := hr H locs ls hS hl T hT St
  cases hv
  have e := F.g
  obtain ⟨t2, a1, b1⟩ := K v h' hp T'.heap (locs ++ L) ls (by
    rw [e] at hS ⊢
    refine ⟨by rw [e1]; exact hS'.1, by rw [e1]; exact hS'.2.1, by rw [e1]; exact hS'.2.2.1, fun x hx => ?_⟩
    rcases List.mem_append.mp hx with h1 | h1
    · exact hS.2.2.2 x h1
    · exact hL x h1) hl T' rfl X'
  exact ⟨t2, hst t2 a1, b1⟩
theorem ct_pre (F : Fx l G X y cc nL ret fr lo mc ms) {av : List Value} {H : Heap} {locs : List Loc} (hS : Sh (xG X) h H locs) : FrameBlind (va_Pc av (fun U => Sh G h U.heap [] ∧ (gS G).WarmedH U.vm)) ∧ ∀ U : State, U.heap = H → (xs X).WarmedH U.vm → va_Pc av (fun U => Sh G h U.heap [] ∧ (gS G).WarmedH U.vm) av.toArray U := by
  refine ⟨fun a U g mk q => q, fun U hU hW => ⟨rfl, ?_, State.WarmedH.trans F.warm hW⟩⟩
  rw [F.g] at hS
  rw [hU]
  exact ⟨hS.1, hS.2.1, hS.2.2.1, fun x hx => by cases hx⟩
theorem ct_recv (F : Fx l G X y cc nL ret fr lo mc ms) {C : String} {T : u_T} {N ci b : Nat} {t : Nat × Nat} {fs : List Value} {H : Heap} {locs : List Loc} (hS : Sh (xG X) h H locs) (hb : h b = some (t, oB ci fs)) (hc : vCk[ci]? = some (C, T, N)) : ∃ cell : Cell, H[b]? = some cell ∧ cell.vm.isStatics = false ∧ (xs X).vm.findClass C = some cell.cls := by
  rw [F.g] at hS
  obtain ⟨r, h1, cell, q1, q2, q3, q4⟩ := (hS.1 b t _ hb).1
  exact ⟨cell, q1, by rw [q3]; rfl, by rw [q2]; exact (F.K.1 ci _ hc).2.1⟩
theorem Fx.fix (F : Fx l G X y cc nL ret fr lo mc ms) : CallFix (xp X) (xm X) (xc X) cc nL (xs X) (xargs X) lw_all y.cls := ⟨F.exec, F.code, F.ml, F.own, F.ts⟩
theorem Ct.met {av : List Value} (F : Fx l G X y cc nL ret fr lo mc ms) (hM : Ct l G y2 cc2 nL2 ret2 fr2 lo2 mc2 ms2 av h post) : Met (xl X) y2 (ws_ y2 cc2 nL2 ret2) { frames := fr2, cells := mc2, slots := ms2, locals := lo2 } (va_Pc av (fun U => Sh G h U.heap [] ∧ (gS G).WarmedH U.vm)) (hQ G post) mc2 ms2 (fun q => gN G ≤ q) := by
  rw [F.la]
  exact hM
/-- virtual: the receiver's class is the one named -/
theorem j_callV (F : Fx l G X y cc nL ret fr lo mc ms) {C : String} {T : u_T} {N ci b : Nat} {t : Nat × Nat} {fs : List Value} (hM : Ct l G y2 cc2 nL2 ret2 fr2 lo2 mc2 ms2 (.ref b :: As) h post) (hG : GoodIn lw_all (wsV y.cls idx C y2 (ws_ y2 cc2 nL2 ret2))) (hd : y2.cls = C ∧ y2.cls ≠ "java/lang/invoke/MethodHandle" ∧ y2.cls ≠ "java/lang/invoke/VarHandle" ∧ (parseMethodDescriptor y2.desc).map (fun d => d.parameters.length) = some As.length) (hR : fr2 + 1 ≤ fr ∧ 8 + (nL2 + 11) + lo2 ≤ lo) (hc : vCk[ci]? = some (C, T, N)) (hb : h b = some (t, oB ci fs)) (hst : st = As.reverse ++ .ref b :: rest) (hrs : (rest.map fun v => v.category).sum ≤ 8) (hk : k + mc2 ≤ mc) (hn : n + ms2 ≤ ms) (d : decode cc pc = .ok (.invokevirtual idx, 3))
    (K : ∀ (r : Option Value) (h' : Hp), post r h' → J X h' (pc + 3) lv (r.toList ++ rest) (k + mc2) (n + ms2)) : J X h pc lv st k n :=
  j_run F (fun H locs ls hS hl => va_runV F.fix (Ct.met F hM) (cwV As.length F.ts hG rfl rfl rfl hd (by rw [F.room]; exact hR)) ⟨(ct_pre F hS).1, ct_recv F hS hb hc, (ct_pre F hS).2⟩ rfl rfl (by rw [← F.nl]; exact hl.1) hst (lv_room hrs) d (by rw [F.room]; exact ⟨hk, hn⟩)) K
theorem j_callVN (F : Fx l G X y cc nL ret fr lo mc ms) {C ho : String} {T : u_T} {N ci b : Nat} {t : Nat × Nat} {fs : List Value} (hM : Ct l G y2 cc2 nL2 ret2 fr2 lo2 mc2 ms2 (.ref b :: As) h post) (hG : Cond.code y2 cc2 nL2 ret2 ∈ lw_all) (hli : Cond.methodLinkNest y.cls idx y2 ho ∈ lw_tbl) (hins : Cond.instanceMethod y2 ∈ lw_all) (hsel : Cond.selects C y2 y2 ∈ lw_all) (hini : Cond.initialized y2.cls ∈ lw_all) (hd : y2.cls ≠ "java/lang/invoke/MethodHandle" ∧ y2.cls ≠ "java/lang/invoke/VarHandle" ∧ (parseMethodDescriptor y2.desc).map (fun d => d.parameters.length) = some As.length) (hR : fr2 + 1 ≤ fr ∧ 8 + (nL2 + 11) + lo2 ≤ lo) (hc : vCk[ci]? = some (C, T, N)) (hb : h b = some (t, oB ci fs)) (hst : st = As.reverse ++ .ref b :: rest) (hrs : (rest.map fun v => v.category).sum ≤ 8) (hk : k + mc2 ≤ mc) (hn : n + ms2 ≤ ms) (d : decode cc pc = .ok (.invokevirtual idx, 3))
    (K : ∀ (r : Option Value) (h' : Hp), post r h' → J X h' (pc + 3) lv (r.toList ++ rest) (k + mc2) (n + ms2)) : J X h pc lv st k n :=
  j_run F (fun H locs ls hS hl => va_runVN F.fix (Ct.met F hM) ⟨va_cnB As.length F.ts (lw_meth hG) rfl rfl rfl (F.nm hli) (F.ts _ hini) hd (by rw [F.room]; exact hR), F.ts _ hins, F.ts _ hsel⟩ ⟨(ct_pre F hS).1, ct_recv F hS hb hc, (ct_pre F hS).2⟩ rfl rfl (by rw [← F.nl]; exact hl.1) hst (lv_room hrs) d (by rw [F.room]; exact ⟨hk, hn⟩)) K
theorem j_callS (F : Fx l G X y cc nL ret fr lo mc ms) (hM : Ct l G y2 cc2 nL2 ret2 fr2 lo2 mc2 ms2 As h post) (hG : GoodIn lw_all (va_wsS y.cls idx y2 (ws_ y2 cc2 nL2 ret2))) (hd : y2.cls ≠ "java/lang/invoke/MethodHandle" ∧ y2.cls ≠ "java/lang/invoke/VarHandle" ∧ (parseMethodDescriptor y2.desc).map (fun d => d.parameters.length) = some As.length) (hR : fr2 + 1 ≤ fr ∧ 8 + (nL2 + 11) + lo2 ≤ lo) (hst : st = As.reverse ++ rest) (hrs : (rest.map fun v => v.category).sum ≤ 8) (hk : k + mc2 ≤ mc) (hn : n + ms2 ≤ ms) (d : decode cc pc = .ok (.invokestatic idx, 3))
    (K : ∀ (r : Option Value) (h' : Hp), post r h' → J X h' (pc + 3) lv (r.toList ++ rest) (k + mc2) (n + ms2)) : J X h pc lv st k n :=
  j_run F (fun H locs ls hS hl => va_runS F.fix (Ct.met F hM) (va_cwS As.length F.ts hG rfl rfl rfl hd (by rw [F.room]; exact hR)) (ct_pre F hS) rfl rfl (by rw [← F.nl]; exact hl.1) hst (lv_room hrs) d (by rw [F.room]; exact ⟨hk, hn⟩)) K
theorem j_callSN (F : Fx l G X y cc nL ret fr lo mc ms) {ho : String} (hM : Ct l G y2 cc2 nL2 ret2 fr2 lo2 mc2 ms2 As h post) (hG : Cond.code y2 cc2 nL2 ret2 ∈ lw_all) (hli : Cond.methodLinkNest y.cls idx y2 ho ∈ lw_tbl) (hsta : Cond.static y2 ∈ lw_all) (hini : Cond.initialized y2.cls ∈ lw_all) (hd : y2.cls ≠ "java/lang/invoke/MethodHandle" ∧ y2.cls ≠ "java/lang/invoke/VarHandle" ∧ (parseMethodDescriptor y2.desc).map (fun d => d.parameters.length) = some As.length) (hR : fr2 + 1 ≤ fr ∧ 8 + (nL2 + 11) + lo2 ≤ lo) (hst : st = As.reverse ++ rest) (hrs : (rest.map fun v => v.category).sum ≤ 8) (hk : k + mc2 ≤ mc) (hn : n + ms2 ≤ ms) (d : decode cc pc = .ok (.invokestatic idx, 3))
    (K : ∀ (r : Option Value) (h' : Hp), post r h' → J X h' (pc + 3) lv (r.toList ++ rest) (k + mc2) (n + ms2)) : J X h pc lv st k n :=
  j_run F (fun H locs ls hS hl => va_runSN F.fix (Ct.met F hM) ⟨va_cnB As.length F.ts (lw_meth hG) rfl rfl rfl (F.nm hli) (F.ts _ hini) hd (by rw [F.room]; exact hR), F.ts _ hsta, trivial⟩ (ct_pre F hS) rfl rfl (by rw [← F.nl]; exact hl.1) hst (lv_room hrs) d (by rw [F.room]; exact ⟨hk, hn⟩)) K
/-- a constructor -/
theorem j_callI (F : Fx l G X y cc nL ret fr lo mc ms) {b : Nat} (hM : Ct l G y2 cc2 nL2 none fr2 lo2 mc2 ms2 (.ref b :: As) h post) (hG : Cond.code y2 cc2 nL2 none ∈ lw_all) (hini : Cond.initialized y2.cls ∈ lw_all) (hli : Cond.methodLink y.cls idx y2 ∈ lw_all) (hins : Cond.instanceMethod y2 ∈ lw_all) (hnm : y2.name = "<init>") (hd : y2.cls ≠ "java/lang/invoke/MethodHandle" ∧ y2.cls ≠ "java/lang/invoke/VarHandle" ∧ (parseMethodDescriptor y2.desc).map (fun d => d.parameters.length) = some As.length) (hR : fr2 + 1 ≤ fr ∧ 8 + (nL2 + 11) + lo2 ≤ lo) (hst : st = As.reverse ++ .ref b :: rest) (hrs : (rest.map fun v => v.category).sum ≤ 8) (hk : k + mc2 ≤ mc) (hn : n + ms2 ≤ ms) (d : decode cc pc = .ok (.invokespecial idx, 3))
    (K : ∀ (r : Option Value) (h' : Hp), post r h' → J X h' (pc + 3) lv (r.toList ++ rest) (k + mc2) (n + ms2)) : J X h pc lv st k n :=
  j_run F (fun H locs ls hS hl => va_runI F.fix (Ct.met F hM) (cwI As.length F.ts (lw_meth hG) rfl rfl rfl (F.ts _ hini) (F.ts _ hli) (F.ts _ hins) hnm hd (by rw [F.room]; exact hR)) (ct_pre F hS) rfl rfl (by rw [← F.nl]; exact hl.1) hst (lv_room hrs) d (by rw [F.room]; exact ⟨hk, hn⟩)) K
theorem j_callIN (F : Fx l G X y cc nL ret fr lo mc ms) {b : Nat} {ho : String} (hM : Ct l G y2 cc2 nL2 none fr2 lo2 mc2 ms2 (.ref b :: As) h post) (hG : Cond.code y2 cc2 nL2 none ∈ lw_all) (hini : Cond.initialized y2.cls ∈ lw_all) (hli : Cond.methodLinkNest y.cls idx y2 ho ∈ lw_tbl) (hins : Cond.instanceMethod y2 ∈ lw_all) (hnm : y2.name = "<init>") (hd : y2.cls ≠ "java/lang/invoke/MethodHandle" ∧ y2.cls ≠ "java/lang/invoke/VarHandle" ∧ (parseMethodDescriptor y2.desc).map (fun d => d.parameters.length) = some As.length) (hR : fr2 + 1 ≤ fr ∧ 8 + (nL2 + 11) + lo2 ≤ lo) (hst : st = As.reverse ++ .ref b :: rest) (hrs : (rest.map fun v => v.category).sum ≤ 8) (hk : k + mc2 ≤ mc) (hn : n + ms2 ≤ ms) (d : decode cc pc = .ok (.invokespecial idx, 3))
    (K : ∀ (r : Option Value) (h' : Hp), post r h' → J X h' (pc + 3) lv (r.toList ++ rest) (k + mc2) (n + ms2)) : J X h pc lv st k n :=
  j_run F (fun H locs ls hS hl => va_runIN F.fix (Ct.met F hM) ⟨va_cnB As.length F.ts (lw_meth hG) rfl rfl rfl (F.nm hli) (F.ts _ hini) hd (by rw [F.room]; exact hR), hnm, F.ts _ hins⟩ (ct_pre F hS) rfl rfl (by rw [← F.nl]; exact hl.1) hst (lv_room hrs) d (by rw [F.room]; exact ⟨hk, hn⟩)) K
/-- Object's own constructor -/
theorem j_objInit (F : Fx l G X y cc nL ret fr lo mc ms) {a : Nat} (hli : Cond.methodLink y.cls idx Lib.objectInit ∈ lw_all) (hins : Cond.instanceMethod Lib.objectInit ∈ lw_all) (hco : Cond.code Lib.objectInit ⟨#[0xb1]⟩ 1 none ∈ lw_all) (hfr : 1 ≤ fr) (hlo : 20 ≤ lo) (hrs : (rest.map fun v => v.category).sum ≤ 8) (d : decode cc pc = .ok (.invokespecial idx, 3)) (K : J X h (pc + 3) lv rest k n) : J X h pc lv (.ref a :: rest) k n := fun H locs ls hS hl => by
  refine W.objInit F.exec F.code F.own (F.ts _ hli) (F.ts _ hins) (F.ts _ hco) rfl (by rw [F.ml, ← F.nl]; exact hl.1) rfl d (by rw [F.room]; exact hfr) ?_ (K H locs ls hS hl)
  have h8 := lv_room (m := xm X) (pc := pc) (ls := ls) (rest := .ref a :: rest) hrs
  rw [F.room]
  exact Nat.le_trans (Nat.add_le_add_right h8 12) hlo
/-- what a call gave, by its kind -/
theorem r_i {P : Int → Hp → Prop} {pc' : Nat} {k' n' : Nat} (K : ∀ (v : Int) (h' : Hp), P v h' → J X h' pc' lv (vI v :: rest) k' n') : ∀ (r : Option Value) (h' : Hp), pI P r h' → J X h' pc' lv (r.toList ++ rest) k' n' := by
  rintro r h' ⟨v, rfl, hp⟩
  exact K v h' hp
theorem r_v {P : Hp → Prop} {pc' : Nat} {k' n' : Nat} (K : ∀ (h' : Hp), P h' → J X h' pc' lv rest k' n') : ∀ (r : Option Value) (h' : Hp), pV P r h' → J X h' pc' lv (r.toList ++ rest) k' n' := by
  rintro r h' ⟨rfl, hp⟩
  exact K h' hp
theorem r_r {P : Nat → Hp → Prop} {pc' : Nat} {k' n' : Nat} (K : ∀ (v : Nat) (h' : Hp), P v h' → J X h' pc' lv (.ref v :: rest) k' n') : ∀ (r : Option Value) (h' : Hp), pR P r h' → J X h' pc' lv (r.toList ++ rest) k' n' := by
  rintro r h' ⟨v, rfl, hp⟩
  exact K v h' hp
theorem r_n {P : Option Nat → Hp → Prop} {pc' : Nat} {k' n' : Nat} (K : ∀ (v : Option Nat) (h' : Hp), P v h' → J X h' pc' lv (va_rf v :: rest) k' n') : ∀ (r : Option Value) (h' : Hp), pN P r h' → J X h' pc' lv (r.toList ++ rest) k' n' := by
  rintro r h' ⟨v, rfl, hp⟩
  exact K v h' hp
theorem r_l {P : Int64 → Hp → Prop} {pc' : Nat} {k' n' : Nat} (K : ∀ (v : Int64) (h' : Hp), P v h' → J X h' pc' lv (.long v :: rest) k' n') : ∀ (r : Option Value) (h' : Hp), pL P r h' → J X h' pc' lv (r.toList ++ rest) k' n' := by
  rintro r h' ⟨v, rfl, hp⟩
  exact K v h' hp
/-- a loop: by a measure -/
theorem loop_by {σ : Type} {W9 : σ → Prop} (P : σ → Prop) (μ : σ → Nat) (step : ∀ s, P s → (∀ s', P s' → μ s' < μ s → W9 s') → W9 s) (s : σ) (h : P s) : W9 s := by
  have key : ∀ (m : Nat) (s : σ), μ s < m → P s → W9 s := by
    intro m
    induction m with
    | zero => intro s hs; omega
    | succ m ih => intro s hs hp; exact step s hp (fun s' hp' hlt => ih s' (by omega) hp')
  exact key (μ s + 1) s (by omega) h
end JC
