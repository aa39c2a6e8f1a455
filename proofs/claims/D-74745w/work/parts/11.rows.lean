/-! ROWS OVER THE HEAP: fields, arrays, new, returns -/
section JH
variable {l : Launch} {G : Gt} {X : Cx} {y : MethodName} {cc : ByteArray} {nL : Nat} {ret : Option FieldType} {fr lo mc ms : Nat} {h : Hp} {pc : Nat} {lv : List (Nat × Value)} {st : List Value} {k n : Nat}
theorem Fx.tb (F : Fx l G X y cc nL ret fr lo mc ms) {w : Cond} (hw : w ∈ lw_tbl) : ∃ b0 : Nat, w.before #[Value.ref b0] (gS G) = true := by
  obtain ⟨⟨b0, h1, -⟩, -⟩ := F.ks
  exact ⟨b0, h1 w hw⟩
theorem Fx.nf (F : Fx l G X y cc nL ret fr lo mc ms) {a : String} {i : Nat} {b nm d ho : String} (hw : Cond.fieldLinkNest a i b nm d ho ∈ lw_tbl) : (Cond.fieldLinkNest a i b nm d ho).before (xargs X) (xs X) = true := by
  obtain ⟨b0, h1⟩ := F.tb hw
  exact va_Nw.use rfl (va_Nw.warmF F.warm (va_Nw.of rfl h1))
theorem Fx.nm (F : Fx l G X y cc nL ret fr lo mc ms) {a : String} {i : Nat} {x : MethodName} {ho : String} (hw : Cond.methodLinkNest a i x ho ∈ lw_tbl) : va_Nw (.methodLinkNest a i x ho) (xs X) := by
  obtain ⟨b0, h1⟩ := F.tb hw
  exact va_Nw.warmM F.warm (va_Nw.of rfl h1)
/-- getfield, whatever its link -/
theorem j_get0 (F : Fx l G X y cc nL ret fr lo mc ms) {C : String} {T : u_T} {N ci idx : Nat} {a : Nat} {t : Nat × Nat} {fs : List Value} {v : Value} (hin : ∀ w ∈ u_ws C T N, w ∈ lw_all) (hc : vCk[ci]? = some (C, T, N)) (i : Nat) (hi : i < N) (ha : h a = some (t, oB ci fs)) (hv : fs[i]? = some v)
    (hg : ∀ (H : Heap) (locs : List Loc) (ls : Array Slot) (cell : Cell), H[a]? = some cell → cell.vm ≠ .unknown → (∀ cf kf fi f, (xs X).fieldFound? (T i).1 (T i).2.1 (T i).2.2.1 = some (cf, kf, fi, f) → f.isStatic = false ∧ cell.slots[f.slot]? = some v) → JW X H locs k n (F0 (xm X) (pc + 3) ls (v :: st)) → JW X H locs k n (F0 (xm X) pc ls (.ref a :: st)))
    (K : J X h (pc + 3) lv (v :: st) k n) : J X h pc lv (.ref a :: st) k n := fun H locs ls hS hl => by
  have hA := (hS.1 a t _ ha).1
  rw [F.g] at hA
  obtain ⟨r, h1, cell, q1, q2, q3, q4⟩ := hA
  have hr : r = (C, T, N) := Option.some.inj (h1.symm.trans (vCk_l hc))
  subst hr
  obtain ⟨hSl, hfc, kC, hkC, hkind⟩ := F.K.1 ci _ hc
  refine hg H locs ls cell q1 (by rw [q3]; exact fun h => by cases h) ?_ (K H locs ls hS hl)
  intro cf kf fi f hf
  obtain ⟨cf', kf', fi', f', hi', hsl⟩ := hSl i hi
  cases hf.symm.trans hi'
  refine ⟨(u_facts hfc hkC (u_lays F.ts hin hi) hf).1, ?_⟩
  rw [hsl, q4 i hi]
  simp [vp_V, hv]
theorem Fx.found (F : Fx l G X y cc nL ret fr lo mc ms) {C : String} {T : u_T} {N ci : Nat} (hc : vCk[ci]? = some (C, T, N)) {i : Nat} (hi : i < N) : ∃ cf kf fi f, (xs X).fieldFound? (T i).1 (T i).2.1 (T i).2.2.1 = some (cf, kf, fi, f) := by
  obtain ⟨hSl, -⟩ := F.K.1 ci _ hc
  obtain ⟨cf', kf', fi', f', hi', hsl⟩ := hSl i hi
  exact ⟨cf', kf', fi', f', hi'⟩
theorem j_get (F : Fx l G X y cc nL ret fr lo mc ms) {C : String} {T : u_T} {N ci idx : Nat} {a : Nat} {t : Nat × Nat} {fs : List Value} {v : Value} (hin : ∀ w ∈ u_ws C T N, w ∈ lw_all) (hc : vCk[ci]? = some (C, T, N)) (i : Nat) (hi : i < N) (hlink : Cond.fieldLink y.cls idx (T i).1 (T i).2.1 (T i).2.2.1 ∈ lw_all) (ha : h a = some (t, oB ci fs)) (hv : fs[i]? = some v) (d : decode cc pc = .ok (.getfield idx, 3)) (K : J X h (pc + 3) lv (v :: st) k n) : J X h pc lv (.ref a :: st) k n := by
  refine j_get0 F (idx := idx) hin hc i hi ha hv ?_ K
  intro H locs ls cell q1 q2 q3 q
  obtain ⟨cf, kf, fi, f, hf⟩ := F.found hc hi
  exact W.getf F.exec F.code F.own (F.ts _ hlink) hf (q3 _ _ _ _ hf).1 q1 q2 (q3 _ _ _ _ hf).2 rfl rfl d q
/-- a nest mate's field -/
theorem j_getN (F : Fx l G X y cc nL ret fr lo mc ms) {C ho : String} {T : u_T} {N ci idx : Nat} {a : Nat} {t : Nat × Nat} {fs : List Value} {v : Value} (hin : ∀ w ∈ u_ws C T N, w ∈ lw_all) (hc : vCk[ci]? = some (C, T, N)) (i : Nat) (hi : i < N) (hlink : Cond.fieldLinkNest y.cls idx (T i).1 (T i).2.1 (T i).2.2.1 ho ∈ lw_tbl) (ha : h a = some (t, oB ci fs)) (hv : fs[i]? = some v) (d : decode cc pc = .ok (.getfield idx, 3)) (K : J X h (pc + 3) lv (v :: st) k n) : J X h pc lv (.ref a :: st) k n := by
  refine j_get0 F (idx := idx) hin hc i hi ha hv ?_ K
  intro H locs ls cell q1 q2 q3 q
  obtain ⟨cf, kf, fi, f, hf⟩ := F.found hc hi
  exact va_Wgetf F.exec F.code F.own (F.nf hlink) hf (q3 _ _ _ _ hf).1 q1 q2 (q3 _ _ _ _ hf).2 rfl rfl d q
/-- an inherited field, spelt by another class -/
theorem j_getS (F : Fx l G X y cc nL ret fr lo mc ms) {C ref : String} {T : u_T} {N ci idx : Nat} {a : Nat} {t : Nat × Nat} {fs : List Value} {v : Value} (hin : ∀ w ∈ u_ws C T N, w ∈ lw_all) (hc : vCk[ci]? = some (C, T, N)) (i : Nat) (hi : i < N) (hlink : Cond.fieldLink y.cls idx ref (T i).2.1 (T i).2.2.1 ∈ lw_all) (hsame : Cond.sameField ref (T i).1 (T i).2.1 (T i).2.2.1 ∈ lw_all) (ha : h a = some (t, oB ci fs)) (hv : fs[i]? = some v) (d : decode cc pc = .ok (.getfield idx, 3)) (K : J X h (pc + 3) lv (v :: st) k n) : J X h pc lv (.ref a :: st) k n := by
  refine j_get0 F (idx := idx) hin hc i hi ha hv ?_ K
  intro H locs ls cell q1 q2 q3 q
  obtain ⟨cf, kf, fi, f, hf⟩ := F.found hc hi
  exact W.getf F.exec F.code F.own (F.ts _ hlink) (u_same (F.ts _ hsame) _ hf) (q3 _ _ _ _ hf).1 q1 q2 (q3 _ _ _ _ hf).2 rfl rfl d q
/-- putfield, whatever its link -/
theorem j_put0 (F : Fx l G X y cc nL ret fr lo mc ms) {C : String} {T : u_T} {N ci : Nat} {a : Nat} {t : Nat × Nat} {fs : List Value} {v : Value} (hin : ∀ w ∈ u_ws C T N, w ∈ lw_all) (ty : Nat → FieldType) (hty : ∀ k, k < N → parseFieldDescriptor (T k).2.2.1 = some (ty k)) (hnm : ∀ a, a < N → ∀ b, b < N → a ≠ b → (T a).2.1 ≠ (T b).2.1) (hc : vCk[ci]? = some (C, T, N)) (i : Nat) (hi : i < N) (ha : h a = some (t, oB ci fs)) (hl : i < fs.length)
    (hg : ∀ (H : Heap) (locs : List Loc) (ls : Array Slot) (cell : Cell) (cf : ClassId) (kf : Class) (fi : Nat) (f : Field) (kC : Class), H[a]? = some cell → cell.vm = .none → (xs X).fieldFound? (T i).1 (T i).2.1 (T i).2.2.1 = some (cf, kf, fi, f) → f.isStatic = false → f.slot < cell.slots.size → (xs X).vm.findClass C = some cell.cls → (xs X).vm.classes[cell.cls]? = some kC → kC.kind = .ordinary →
      (∀ H' : Heap, H'[a]? = some (cell.setSlot f.slot v) → H'.size = H.size → (∀ q, q ≠ a → H'[q]? = H[q]?) → JW X H' (locs ++ [⟨a, f.slot⟩]) k n (F0 (xm X) (pc + 3) ls st)) → JW X H locs k n (F0 (xm X) pc ls (v :: .ref a :: st)))
    (K : J X (hu h a (t, oB ci (fs.set i v))) (pc + 3) lv st k n) : J X h pc lv (v :: .ref a :: st) k n := fun H locs ls hS hll => by
  have hA := (hS.1 a t _ ha).1
  rw [F.g] at hA
  have hap := va_apart (own := C) F.ts hin ty hty hnm F.K hc
  obtain ⟨r, h1, cell, q1, q2, q3, q4⟩ := hA
  have hr : r = (C, T, N) := Option.some.inj (h1.symm.trans (vCk_l hc))
  subst hr
  obtain ⟨hSl, hfc, kC, hkC, hkind⟩ := F.K.1 ci _ hc
  obtain ⟨cf, kf, fi, f, hf, hsl⟩ := hSl i hi
  have hst := (u_facts hfc hkC (u_lays F.ts hin hi) hf).1
  refine hg H locs ls cell cf kf fi f kC q1 q3 hf hst (by rw [hsl]; exact k2_hasslot (q4 i hi)) (by rw [q2]; exact hfc) (by rw [q2]; exact hkC) hkind fun H' e1 e2 e3 => ?_
  rw [hsl] at e1
  refine K H' _ ls (hS.set ha ?_ e2 e3) hll
  rw [F.g]
  exact ⟨_, vCk_l hc, t_OB.to (V := updV (vp_V fs) i v) ⟨_, e1, q2, q3, t_set q4 hap hi v⟩ (fun j _ => vp_updV_set hl v j)⟩
theorem Fx.lays (F : Fx l G X y cc nL ret fr lo mc ms) {C : String} {T : u_T} {N : Nat} (hin : ∀ w ∈ u_ws C T N, w ∈ lw_all) {i : Nat} (hi : i < N) (hfin : (T i).2.2.2 = false) : (Cond.lays C (T i).1 (T i).2.1 (T i).2.2.1).before (xargs X) (xs X) = true := by
  have hlay := F.ts _ (hin _ (u_in_lay hi))
  unfold u_lay at hlay
  rw [if_neg (by rw [hfin]; decide)] at hlay
  exact hlay
theorem j_put (F : Fx l G X y cc nL ret fr lo mc ms) {C : String} {T : u_T} {N ci idx : Nat} {a : Nat} {t : Nat × Nat} {fs : List Value} {v : Value} (hin : ∀ w ∈ u_ws C T N, w ∈ lw_all) (ty : Nat → FieldType) (hty : ∀ k, k < N → parseFieldDescriptor (T k).2.2.1 = some (ty k)) (hnm : ∀ a, a < N → ∀ b, b < N → a ≠ b → (T a).2.1 ≠ (T b).2.1) (hc : vCk[ci]? = some (C, T, N)) (i : Nat) (hi : i < N) (hlink : Cond.fieldLink y.cls idx (T i).1 (T i).2.1 (T i).2.2.1 ∈ lw_all) (hfin : (T i).2.2.2 = false) (ha : h a = some (t, oB ci fs)) (hl : i < fs.length) (hn : narrow (ty i) v = v) (hfit : fits (ty i) v = true) (d : decode cc pc = .ok (.putfield idx, 3)) (K : J X (hu h a (t, oB ci (fs.set i v))) (pc + 3) lv st k n) : J X h pc lv (v :: .ref a :: st) k n := by
  refine j_put0 F hin ty hty hnm hc i hi ha hl ?_ K
  intro H locs ls cell cf kf fi f kC q1 q3 hf hst hlt hfc hkC hkind kk
  exact W.putK F.exec F.code (f := f) ⟨F.own, F.ts _ hlink, ⟨_, _, _, hf⟩, hst⟩ (u_store hfc hkC hkind (F.lays hin hi hfin) hf (hty i hi) hn hfit) q1 q3 hlt rfl rfl d kk
theorem j_putN (F : Fx l G X y cc nL ret fr lo mc ms) {C ho : String} {T : u_T} {N ci idx : Nat} {a : Nat} {t : Nat × Nat} {fs : List Value} {v : Value} (hin : ∀ w ∈ u_ws C T N, w ∈ lw_all) (ty : Nat → FieldType) (hty : ∀ k, k < N → parseFieldDescriptor (T k).2.2.1 = some (ty k)) (hnm : ∀ a, a < N → ∀ b, b < N → a ≠ b → (T a).2.1 ≠ (T b).2.1) (hc : vCk[ci]? = some (C, T, N)) (i : Nat) (hi : i < N) (hlink : Cond.fieldLinkNest y.cls idx (T i).1 (T i).2.1 (T i).2.2.1 ho ∈ lw_tbl) (hfin : (T i).2.2.2 = false) (ha : h a = some (t, oB ci fs)) (hl : i < fs.length) (hn : narrow (ty i) v = v) (hfit : fits (ty i) v = true) (d : decode cc pc = .ok (.putfield idx, 3)) (K : J X (hu h a (t, oB ci (fs.set i v))) (pc + 3) lv st k n) : J X h pc lv (v :: .ref a :: st) k n := by
  refine j_put0 F hin ty hty hnm hc i hi ha hl ?_ K
  intro H locs ls cell cf kf fi f kC q1 q3 hf hst hlt hfc hkC hkind kk
  exact va_WputK F.exec F.code (f := f) F.own (F.nf hlink) hf hst (u_store hfc hkC hkind (F.lays hin hi hfin) hf (hty i hi) hn hfit) q1 q3 hlt rfl rfl d kk
theorem j_putS (F : Fx l G X y cc nL ret fr lo mc ms) {C ref : String} {T : u_T} {N ci idx : Nat} {a : Nat} {t : Nat × Nat} {fs : List Value} {v : Value} (hin : ∀ w ∈ u_ws C T N, w ∈ lw_all) (ty : Nat → FieldType) (hty : ∀ k, k < N → parseFieldDescriptor (T k).2.2.1 = some (ty k)) (hnm : ∀ a, a < N → ∀ b, b < N → a ≠ b → (T a).2.1 ≠ (T b).2.1) (hc : vCk[ci]? = some (C, T, N)) (i : Nat) (hi : i < N) (hlink : Cond.fieldLink y.cls idx ref (T i).2.1 (T i).2.2.1 ∈ lw_all) (hsame : Cond.sameField ref (T i).1 (T i).2.1 (T i).2.2.1 ∈ lw_all) (hfin : (T i).2.2.2 = false) (ha : h a = some (t, oB ci fs)) (hl : i < fs.length) (hn : narrow (ty i) v = v) (hfit : fits (ty i) v = true) (d : decode cc pc = .ok (.putfield idx, 3)) (K : J X (hu h a (t, oB ci (fs.set i v))) (pc + 3) lv st k n) : J X h pc lv (v :: .ref a :: st) k n := by
  refine j_put0 F hin ty hty hnm hc i hi ha hl ?_ K
  intro H locs ls cell cf kf fi f kC q1 q3 hf hst hlt hfc hkC hkind kk
  exact W.putK F.exec F.code (f := f) ⟨F.own, F.ts _ hlink, ⟨_, _, _, u_same (F.ts _ hsame) _ hf⟩, hst⟩ (u_store hfc hkC hkind (F.lays hin hi hfin) hf (hty i hi) hn hfit) q1 q3 hlt rfl rfl d kk
/-- a final field, in its class's constructor -/
theorem j_putF (F : Fx l G X y cc nL ret fr lo mc ms) {C : String} {T : u_T} {N ci idx : Nat} {a : Nat} {t : Nat × Nat} {fs : List Value} {v : Value} (hin : ∀ w ∈ u_ws C T N, w ∈ lw_all) (ty : Nat → FieldType) (hty : ∀ k, k < N → parseFieldDescriptor (T k).2.2.1 = some (ty k)) (hnm : ∀ a, a < N → ∀ b, b < N → a ≠ b → (T a).2.1 ≠ (T b).2.1) (hc : vCk[ci]? = some (C, T, N)) (i : Nat) (hi : i < N) (hlink : Cond.fieldLink y.cls idx (T i).1 (T i).2.1 (T i).2.2.1 ∈ lw_all) (hfin : (T i).2.2.2 = true) (hnam : y.name = "<init>") (hdecl : (T i).1 = y.cls) (ha : h a = some (t, oB ci fs)) (hl : i < fs.length) (hn : narrow (ty i) v = v) (hfit : fits (ty i) v = true) (d : decode cc pc = .ok (.putfield idx, 3)) (K : J X (hu h a (t, oB ci (fs.set i v))) (pc + 3) lv st k n) : J X h pc lv (v :: .ref a :: st) k n := by
  refine j_put0 F hin ty hty hnm hc i hi ha hl ?_ K
  intro H locs ls cell cf kf fi f kC q1 q3 hf hst hlt hfc hkC hkind kk
  have hlay := F.ts _ (hin _ (u_in_lay hi))
  unfold u_lay at hlay
  rw [if_pos hfin] at hlay
  have hcf : (xm X).cls = cf := by
    obtain ⟨_, _, c', _, _, _, -, -, hf', -, -, -, hown2, -⟩ := Cond.laysFinal_spec hlay
    have e1 : c' = cf := by have := hf.symm.trans hf'; simp at this; exact this.1.symm
    rw [hdecl] at hown2
    rw [← e1]; exact Option.some.inj (F.own.symm.trans hown2)
  exact W.putFinK F.exec F.code F.own (F.ts _ hlink) hf hst hcf (by rw [F.name]; exact hnam) (u_fits hfc hkC hkind (Or.inr hlay) hf (hty i hi) hn hfit) q1 q3 hlt rfl rfl d kk
/-- arrays: reading -/
theorem Sh.cell {h : Hp} {H : Heap} {locs : List Loc} (hS : Sh G h H locs) {a : Nat} {t : Nat × Nat} {c : ClassId} {x : vp_A} (ha : h a = some (t, .inl (c, x))) : H[a]? = some (vp_cell c x) := (hS.1 a t _ ha).1
theorem j_alen (F : Fx l G X y cc nL ret fr lo mc ms) {a : Nat} {t : Nat × Nat} {ty : FieldType} (i : Nat) {x : vp_A} (ht : (tysG G)[i]? = some (gA G i, ty)) (ha : h a = some (t, .inl (gA G i, x))) (d : decode cc pc = .ok (.arraylength, 1)) (K : J X h (pc + 1) lv (vI x.1 :: st) k n) : J X h pc lv (.ref a :: st) k n := fun H locs ls hS hl => by
  have q := K H locs ls hS hl
  have hS' := hS
  rw [F.g] at hS'
  have hP : va_P G.1 vCk [(a, .inl (gA G i, x))] H := fun j q hj => by
    match j, hj with
    | 0, hj => cases hj; exact hS'.cell ha
    | j + 1, hj => simp at hj
  exact va_alen F.exec F.code F.K hP 0 i rfl ht (by rw [i_nat]) d q
theorem va_one (F : Fx l G X y cc nL ret fr lo mc ms) {H : Heap} {locs : List Loc} (hS : Sh (xG X) h H locs) {a : Nat} {t : Nat × Nat} {c : ClassId} {x : vp_A} (ha : h a = some (t, .inl (c, x))) : va_P G.1 vCk [(a, .inl (c, x))] H := fun j q hj => by
  rw [F.g] at hS
  match j, hj with
  | 0, hj => cases hj; exact hS.cell ha
  | j + 1, hj => simp at hj
theorem j_iald (F : Fx l G X y cc nL ret fr lo mc ms) {a : Nat} {t : Nat × Nat} {N : Nat} {g : Int → Int} {i : Int} (ha : h a = some (t, aI (gA G 0) N g)) (hi : 0 ≤ i ∧ i < N ∧ i < 2147483648) (d : decode cc pc = .ok (.iaload, 1)) (K : J X h (pc + 1) lv (vI (g i) :: st) k n) : J X h pc lv (vI i :: .ref a :: st) k n := fun H locs ls hS hl => by
  have q := K H locs ls hS hl
  refine va_iald F.exec F.code F.K (va_one F hS ha) 0 0 rfl rfl (i_in hi) d ?_
  rw [i_clamp (by omega), Int.toNat_of_nonneg hi.1]
  exact q
theorem j_bald (F : Fx l G X y cc nL ret fr lo mc ms) {a : Nat} {t : Nat × Nat} {N : Nat} {g : Int → Int} {i : Int} (ha : h a = some (t, aI (gA G 2) N g)) (hi : 0 ≤ i ∧ i < N ∧ i < 2147483648) (d : decode cc pc = .ok (.baload, 1)) (K : J X h (pc + 1) lv (vI (g i) :: st) k n) : J X h pc lv (vI i :: .ref a :: st) k n := fun H locs ls hS hl => by
  have q := K H locs ls hS hl
  refine va_bald F.exec F.code F.K (va_one F hS ha) 0 2 rfl rfl (i_in hi) d ?_
  rw [i_clamp (by omega), Int.toNat_of_nonneg hi.1]
  exact q
theorem j_zald (F : Fx l G X y cc nL ret fr lo mc ms) {a : Nat} {t : Nat × Nat} {N : Nat} {g : Int → Int} {i : Int} (ha : h a = some (t, aI (gA G 1) N g)) (hi : 0 ≤ i ∧ i < N ∧ i < 2147483648) (d : decode cc pc = .ok (.baload, 1)) (K : J X h (pc + 1) lv (vI (g i) :: st) k n) : J X h pc lv (vI i :: .ref a :: st) k n := fun H locs ls hS hl => by
  have q := K H locs ls hS hl
  refine va_zald F.exec F.code F.K (va_one F hS ha) 0 1 rfl rfl (i_in hi) d ?_
  rw [i_clamp (by omega), Int.toNat_of_nonneg hi.1]
  exact q
theorem j_lald (F : Fx l G X y cc nL ret fr lo mc ms) {a : Nat} {t : Nat × Nat} {N : Nat} {g : Int → Int64} {i : Int} (ha : h a = some (t, aL (gA G 3) N g)) (hi : 0 ≤ i ∧ i < N ∧ i < 2147483648) (d : decode cc pc = .ok (.laload, 1)) (K : J X h (pc + 1) lv (.long (g i) :: st) k n) : J X h pc lv (vI i :: .ref a :: st) k n := fun H locs ls hS hl => by
  have q := K H locs ls hS hl
  refine va_lald F.exec F.code F.K (va_one F hS ha) 0 3 rfl rfl (i_in hi) d ?_
  rw [i_clamp (by omega), Int.toNat_of_nonneg hi.1]
  exact q
/-- j: the array's kind by its place in tysG -/
theorem j_aald (F : Fx l G X y cc nL ret fr lo mc ms) {a : Nat} {t : Nat × Nat} {N : Nat} {g : Int → Option Nat} {i : Int} (j : Nat) {C : String} (hj : (tysG G)[j]? = some (gA G j, .object C)) (ha : h a = some (t, aQ (gA G j) N g)) (hi : 0 ≤ i ∧ i < N ∧ i < 2147483648) (d : decode cc pc = .ok (.aaload, 1)) (K : J X h (pc + 1) lv (va_rf (g i) :: st) k n) : J X h pc lv (vI i :: .ref a :: st) k n := fun H locs ls hS hl => by
  have q := K H locs ls hS hl
  refine va_aldq F.exec F.code F.K (va_one F hS ha) 0 j rfl hj (i_in hi) d ?_
  rw [i_clamp (by omega), Int.toNat_of_nonneg hi.1]
  exact q
/-- arrays: writing -/
theorem aI_set {c : ClassId} {N : Nat} {g : Int → Int} {i v : Int} (hi : 0 ≤ i) : (arrV c N (fun j => Value.int (Int32.ofInt (g j)))).setSlot i.toNat (vI v) = arrV c N (fun j => Value.int (Int32.ofInt (oI g i v j))) := by
  rw [arrV_store]
  congr 1
  funext j
  simp only [updV, oI, vI]
  by_cases hj : j = i.toNat
  · rw [if_pos hj, if_pos (by omega)]
  · rw [if_neg hj, if_neg (by omega)]
theorem j_iast (F : Fx l G X y cc nL ret fr lo mc ms) {a : Nat} {t : Nat × Nat} {N : Nat} {g : Int → Int} {i v : Int} (ha : h a = some (t, aI (gA G 0) N g)) (hi : 0 ≤ i ∧ i < N ∧ i < 2147483648) (d : decode cc pc = .ok (.iastore, 1)) (K : J X (hu h a (t, aI (gA G 0) N (oI g i v))) (pc + 1) lv st k n) : J X h pc lv (vI v :: vI i :: .ref a :: st) k n := fun H locs ls hS hl => by
  have hc : H[a]? = some (arrV (gA G 0) N (fun j => .int (Int32.ofInt (g j)))) := by rw [F.g] at hS; exact hS.cell ha
  refine W.iast F.exec F.code hc ((F.K.2 0 _ rfl).1 N _) (fun q => by cases q) (by rw [arrV_size]; exact i_in hi) rfl rfl d fun H1 e z oq => ?_
  refine K H1 _ ls (hS.set ha ?_ z oq) hl
  rw [i_clamp (by omega)] at e
  show H1[a]? = _
  rw [e]
  exact congrArg some (aI_set hi.1)
theorem j_zast (F : Fx l G X y cc nL ret fr lo mc ms) {a : Nat} {t : Nat × Nat} {N : Nat} {g : Int → Int} {i v : Int} (ha : h a = some (t, aI (gA G 1) N g)) (hi : 0 ≤ i ∧ i < N ∧ i < 2147483648) (hv : v = 0 ∨ v = 1) (d : decode cc pc = .ok (.bastore, 1)) (K : J X (hu h a (t, aI (gA G 1) N (oI g i v))) (pc + 1) lv st k n) : J X h pc lv (vI v :: vI i :: .ref a :: st) k n := fun H locs ls hS hl => by
  have hc : H[a]? = some (arrV (gA G 1) N (fun j => .int (Int32.ofInt (g j)))) := by rw [F.g] at hS; exact hS.cell ha
  refine W.zast F.exec F.code hc ((F.K.2 1 _ rfl).1 N _) (fun q => by cases q) (by rw [arrV_size]; exact i_in hi) rfl rfl d fun H1 e z oq => ?_
  refine K H1 _ ls (hS.set ha ?_ z oq) hl
  rw [i_clamp (by omega)] at e
  show H1[a]? = _
  rw [e]
  have hb : narrow .boolean (vI v) = vI v := by rcases hv with rfl | rfl <;> rfl
  exact congrArg some (Eq.trans (by rw [show Value.int (Int32.ofInt v) = vI v from rfl, hb]) (aI_set hi.1))
theorem j_bast (F : Fx l G X y cc nL ret fr lo mc ms) {a : Nat} {t : Nat × Nat} {N : Nat} {g : Int → Int} {i v : Int} (ha : h a = some (t, aI (gA G 2) N g)) (hi : 0 ≤ i ∧ i < N ∧ i < 2147483648) (hv : narrow .byte (vI v) = vI v) (d : decode cc pc = .ok (.bastore, 1)) (K : J X (hu h a (t, aI (gA G 2) N (oI g i v))) (pc + 1) lv st k n) : J X h pc lv (vI v :: vI i :: .ref a :: st) k n := fun H locs ls hS hl => by
  have hc : H[a]? = some (arrV (gA G 2) N (fun j => .int (Int32.ofInt (g j)))) := by rw [F.g] at hS; exact hS.cell ha
  refine W.bast F.exec F.code hc ((F.K.2 2 _ rfl).1 N _) (fun q => by cases q) (by rw [arrV_size]; exact i_in hi) rfl rfl d fun H1 e z oq => ?_
  refine K H1 _ ls (hS.set ha ?_ z oq) hl
  rw [i_clamp (by omega)] at e
  show H1[a]? = _
  rw [e]
  exact congrArg some (Eq.trans (by rw [show Value.int (Int32.ofInt v) = vI v from rfl, hv]) (aI_set hi.1))
theorem j_last (F : Fx l G X y cc nL ret fr lo mc ms) {a : Nat} {t : Nat × Nat} {N : Nat} {g : Int → Int64} {i : Int} {v : Int64} (ha : h a = some (t, aL (gA G 3) N g)) (hi : 0 ≤ i ∧ i < N ∧ i < 2147483648) (d : decode cc pc = .ok (.lastore, 1)) (K : J X (hu h a (t, aL (gA G 3) N (oL g i v))) (pc + 1) lv st k n) : J X h pc lv (.long v :: vI i :: .ref a :: st) k n := fun H locs ls hS hl => by
  have hc : H[a]? = some (arrV (gA G 3) N (fun j => .long (g j))) := by rw [F.g] at hS; exact hS.cell ha
  refine W.last F.exec F.code hc ((F.K.2 3 _ rfl).1 N _) (fun q => by cases q) (by rw [arrV_size]; exact i_in hi) rfl rfl d fun H1 e z oq => ?_
  refine K H1 _ ls (hS.set ha ?_ z oq) hl
  rw [i_clamp (by omega)] at e
  show H1[a]? = _
  rw [e, arrV_store]
  show _ = some (arrV (gA G 3) N (fun j => Value.long (oL g i v j)))
  congr 2
  funext j
  simp only [updV, oL]
  by_cases hj : j = i.toNat
  · rw [if_pos hj, if_pos (by omega)]
  · rw [if_neg hj, if_neg (by omega)]
/-- new things -/
theorem j_new (F : Fx l G X y cc nL ret fr lo mc ms) {C : String} {T : u_T} {N ci idx : Nat} {fs : List Value} (t : Nat → Nat × Nat) (hin : ∀ w ∈ u_ws C T N, w ∈ lw_all) (ty : Nat → FieldType) (hty : ∀ k, k < N → parseFieldDescriptor (T k).2.2.1 = some (ty k)) (hc : vCk[ci]? = some (C, T, N)) (hcl : Cond.classLink y.cls idx C ∈ lw_all) (hins : Cond.instantiable C N ∈ lw_all) (hini : Cond.initialized C ∈ lw_all) (hfs : ∀ j, j < N → defaultValue (ty j) = vp_V fs j) (hk : k + 1 ≤ mc) (hn : n + N ≤ ms) (ht : ∀ q, Ab h q → (t q).1 ≤ q) (d : decode cc pc = .ok (.new idx, 3))
    (K : ∀ q : Nat, Ab h q → J X (hu h q (t q, oB ci fs)) (pc + 3) lv (.ref q :: st) (k + 1) (n + N)) : J X h pc lv st k n := fun H locs ls hS hl => by
  have hKn := F.K.1 ci _ hc
  refine W.newcK F.exec F.code F.own (F.ts _ hcl) (F.ts _ hins) (F.ts _ hini) rfl d (by rw [F.room]; exact hk) (by rw [F.room]; exact hn) hKn.2.1 rfl fun H1 kC hkC e1 z1 o1 => ?_
  refine K H.size hS.ab H1 locs ls (hS.new ?_ z1 o1 (ht _ hS.ab)) hl
  rw [F.g]
  exact ⟨_, vCk_l hc, (u_born ty F.ts hin hKn hkC e1 hty).to hfs⟩
theorem j_newarr0 (F : Fx l G X y cc nL ret fr lo mc ms) {at9 : ArrayType} {i : Int} {N j : Nat} {e9 : va_E} (t : Nat → Nat × Nat) (harr : Cond.arrayClass (newarray.typeOf at9) ∈ lw_all) (hj : (tysG G)[j]? = some (gA G j, newarray.typeOf at9)) (hra : va_RA (xs X) (gA G j) (newarray.typeOf at9) → (xs X).vm.findClass ("[" ++ (newarray.typeOf at9).toString) = some (gA G j)) (he : ∀ (q : Nat) (H : Heap), H[q]? = some (arrV (gA G j) N (fun _ => defaultValue (newarray.typeOf at9))) → va_at G.1 vCl (q, e9) H)
    (hi : i = N) (hb : N * componentBytes (newarray.typeOf at9) ≤ 536870912) (hN : N < 2147483648) (hk : k + 1 ≤ mc) (hn : n + N ≤ ms) (ht : ∀ q, Ab h q → (t q).1 ≤ q) (d : decode cc pc = .ok (.newarray at9, 2))
    (K : ∀ q : Nat, Ab h q → J X (hu h q (t q, e9)) (pc + 2) lv (.ref q :: st) (k + 1) (n + N)) : J X h pc lv (vI i :: st) k n := fun H locs ls hS hl => by
  subst hi
  refine va_newaK F.exec F.code (F.ts _ harr) rfl d rfl (N := N) (by rw [i_0, i_lt (by omega) (by omega)]; omega) (by rw [i_clamp (by omega)]; omega) hb (by rw [F.room]; exact hk) (by rw [F.room]; exact hn) rfl fun H1 cA e1 z1 o1 hAr hNm => ?_
  have hcA : cA = gA G j := Option.some.inj (hNm.symm.trans (hra (F.K.2 j _ hj).2))
  subst hcA
  refine K H.size hS.ab H1 locs ls (hS.new ?_ z1 (fun q hq => o1 q hq) (ht _ hS.ab)) hl
  rw [F.g]
  exact he _ _ e1
theorem j_newI (F : Fx l G X y cc nL ret fr lo mc ms) {i : Int} (N : Nat) (t : Nat → Nat × Nat) (hi : i = N) (hN : N ≤ 100000) (hk : k + 1 ≤ mc) (hn : n + N ≤ ms) (ht : ∀ q, Ab h q → (t q).1 ≤ q) (d : decode cc pc = .ok (.newarray .int, 2))
    (K : ∀ q : Nat, Ab h q → J X (hu h q (t q, aI (gA G 0) N (fun _ => 0))) (pc + 2) lv (.ref q :: st) (k + 1) (n + N)) : J X h pc lv (vI i :: st) k n :=
  j_newarr0 F (at9 := .int) (N := N) (j := 0) (e9 := aI (gA G 0) N (fun _ => 0)) t q267 rfl id (fun q H e => e) hi (by show N * 4 ≤ _; omega) (by omega) hk hn ht d K
theorem j_newZ (F : Fx l G X y cc nL ret fr lo mc ms) {i : Int} (N : Nat) (t : Nat → Nat × Nat) (hi : i = N) (hN : N ≤ 100000) (hk : k + 1 ≤ mc) (hn : n + N ≤ ms) (ht : ∀ q, Ab h q → (t q).1 ≤ q) (d : decode cc pc = .ok (.newarray .boolean, 2))
    (K : ∀ q : Nat, Ab h q → J X (hu h q (t q, aI (gA G 1) N (fun _ => 0))) (pc + 2) lv (.ref q :: st) (k + 1) (n + N)) : J X h pc lv (vI i :: st) k n :=
  j_newarr0 F (at9 := .boolean) (N := N) (j := 1) (e9 := aI (gA G 1) N (fun _ => 0)) t q268 rfl id (fun q H e => e) hi (by show N * 1 ≤ _; omega) (by omega) hk hn ht d K
theorem j_newB (F : Fx l G X y cc nL ret fr lo mc ms) {i : Int} (N : Nat) (t : Nat → Nat × Nat) (hi : i = N) (hN : N ≤ 100000) (hk : k + 1 ≤ mc) (hn : n + N ≤ ms) (ht : ∀ q, Ab h q → (t q).1 ≤ q) (d : decode cc pc = .ok (.newarray .byte, 2))
    (K : ∀ q : Nat, Ab h q → J X (hu h q (t q, aI (gA G 2) N (fun _ => 0))) (pc + 2) lv (.ref q :: st) (k + 1) (n + N)) : J X h pc lv (vI i :: st) k n :=
  j_newarr0 F (at9 := .byte) (N := N) (j := 2) (e9 := aI (gA G 2) N (fun _ => 0)) t q290 rfl id (fun q H e => e) hi (by show N * 1 ≤ _; omega) (by omega) hk hn ht d K
theorem j_newL (F : Fx l G X y cc nL ret fr lo mc ms) {i : Int} (N : Nat) (t : Nat → Nat × Nat) (hi : i = N) (hN : N ≤ 100000) (hk : k + 1 ≤ mc) (hn : n + N ≤ ms) (ht : ∀ q, Ab h q → (t q).1 ≤ q) (d : decode cc pc = .ok (.newarray .long, 2))
    (K : ∀ q : Nat, Ab h q → J X (hu h q (t q, aL (gA G 3) N (fun _ => 0))) (pc + 2) lv (.ref q :: st) (k + 1) (n + N)) : J X h pc lv (vI i :: st) k n :=
  j_newarr0 F (at9 := .long) (N := N) (j := 3) (e9 := aL (gA G 3) N (fun _ => 0)) t q702 rfl id (fun q H e => e) hi (by show N * 8 ≤ _; omega) (by omega) hk hn ht d K
/-- an array of references -/
theorem j_newQ (F : Fx l G X y cc nL ret fr lo mc ms) {i : Int} (N j : Nat) {C : String} {idx : Nat} (t : Nat → Nat × Nat) (hj : (tysG G)[j]? = some (gA G j, .object C)) (hcl : Cond.classLink y.cls idx C ∈ lw_all) (hov : Cond.arrayOver (.object C) ∈ lw_tbl) (hi : i = N) (hN : N ≤ 100000) (hk : k + 1 ≤ mc) (hn : n + N ≤ ms) (ht : ∀ q, Ab h q → (t q).1 ≤ q) (d : decode cc pc = .ok (.anewarray idx, 3))
    (K : ∀ q : Nat, Ab h q → J X (hu h q (t q, aQ (gA G j) N (fun _ => none))) (pc + 3) lv (.ref q :: st) (k + 1) (n + N)) : J X h pc lv (vI i :: st) k n := fun H locs ls hS hl => by
  subst hi
  have hov' : (Cond.arrayOver (.object C)).before (xargs X) (xs X) = true := by
    obtain ⟨b0, h1⟩ := F.tb hov
    exact va_AO.use (va_AO.moved F.warm.alike (va_AO.of h1))
  refine W.anew F.exec F.code F.own (F.ts _ hcl) hov' rfl d rfl (by rw [i_0, i_lt (by omega) (by omega)]; omega) (by rw [i_clamp (by omega)]; omega) (by rw [F.room]; exact hk) (by rw [i_clamp (by omega), F.room, Int.toNat_natCast]; exact hn) fun cA kA comp h1 h2 h3 h4 => ?_
  obtain ⟨_, _, -, -, -, hNm⟩ := (F.K.2 j _ hj).2
  have hcA : cA = gA G j := Option.some.inj (h1.symm.trans hNm)
  subst hcA
  rw [i_clamp (by omega), Int.toNat_natCast]
  refine K H.size hS.ab _ locs ls (hS.new ?_ (by simp) (fun q hq => by rw [Array.getElem?_push, if_neg (Nat.ne_of_lt hq)]) (ht _ hS.ab)) hl
  show (H.push _)[H.size]? = some (arrV (gA G j) N (fun _ => Value.null))
  rw [← arrV_new]
  simp
/-- returns -/
theorem j_iret (F : Fx l G X y cc nL (some .int) fr lo mc ms) {post : Option Value → Hp → Prop} (E : En X post) {v : Int} (hk : k ≤ mc) (hn : n ≤ ms) (d : decode cc pc = .ok (.ireturn, 1)) (hp : post (some (vI v)) h) : J X h pc lv [vI v] k n := fun H locs ls hS hl => by
  refine W.widen (k := (xR X).cells) (n := (xR X).slots) (by rw [F.room]; exact hk) (by rw [F.room]; exact hn) ?_
  unfold En at E
  rw [E]
  exact W.iret F.exec F.code F.rt (fun t ht hW => ⟨_, h, rfl, hp, by rw [ht]; exact ⟨hS.1, hS.2.1, hS.2.2.1, fun x hx => by cases hx⟩⟩) hS.2.2.2 d (hlocks := F.locks)
theorem j_zret (F : Fx l G X y cc nL (some .boolean) fr lo mc ms) {post : Option Value → Hp → Prop} (E : En X post) {v : Int} (hv : v = 0 ∨ v = 1) (hk : k ≤ mc) (hn : n ≤ ms) (d : decode cc pc = .ok (.ireturn, 1)) (hp : post (some (vI v)) h) : J X h pc lv [vI v] k n := fun H locs ls hS hl => by
  refine W.widen (k := (xR X).cells) (n := (xR X).slots) (by rw [F.room]; exact hk) (by rw [F.room]; exact hn) ?_
  unfold En at E
  rw [E]
  exact W.zret F.exec F.code F.rt (by rcases hv with rfl | rfl <;> rfl) (fun t ht hW => ⟨_, h, rfl, hp, by rw [ht]; exact ⟨hS.1, hS.2.1, hS.2.2.1, fun x hx => by cases hx⟩⟩) hS.2.2.2 d (hlocks := F.locks)
theorem j_lret (F : Fx l G X y cc nL (some .long) fr lo mc ms) {post : Option Value → Hp → Prop} (E : En X post) {v : Int64} (hk : k ≤ mc) (hn : n ≤ ms) (d : decode cc pc = .ok (.lreturn, 1)) (hp : post (some (.long v)) h) : J X h pc lv [.long v] k n := fun H locs ls hS hl => by
  refine W.widen (k := (xR X).cells) (n := (xR X).slots) (by rw [F.room]; exact hk) (by rw [F.room]; exact hn) ?_
  unfold En at E
  rw [E]
  exact W.lret F.exec F.code F.rt (fun t ht hW => ⟨_, h, rfl, hp, by rw [ht]; exact ⟨hS.1, hS.2.1, hS.2.2.1, fun x hx => by cases hx⟩⟩) hS.2.2.2 d (hlocks := F.locks)
theorem j_vret (F : Fx l G X y cc nL none fr lo mc ms) {post : Option Value → Hp → Prop} (E : En X post) (hk : k ≤ mc) (hn : n ≤ ms) (d : decode cc pc = .ok (.return_, 1)) (hp : post none h) : J X h pc lv [] k n := fun H locs ls hS hl => by
  refine W.widen (k := (xR X).cells) (n := (xR X).slots) (by rw [F.room]; exact hk) (by rw [F.room]; exact hn) ?_
  unfold En at E
  rw [E]
  exact W.vret F.exec F.code F.rt (fun t ht hW => ⟨_, h, rfl, hp, by rw [ht]; exact ⟨hS.1, hS.2.1, hS.2.2.1, fun x hx => by cases hx⟩⟩) hS.2.2.2 d (hlocks := F.locks)
theorem j_aret {rt : FieldType} (F : Fx l G X y cc nL (some rt) fr lo mc ms) {post : Option Value → Hp → Prop} (E : En X post) {o : Option Nat} (hrt : (∃ n, rt = .object n) ∨ ∃ t, rt = .array t) (hk : k ≤ mc) (hn : n ≤ ms) (d : decode cc pc = .ok (.areturn, 1)) (hp : post (some (va_rf o)) h) : J X h pc lv [va_rf o] k n := fun H locs ls hS hl => by
  refine W.widen (k := (xR X).cells) (n := (xR X).slots) (by rw [F.room]; exact hk) (by rw [F.room]; exact hn) ?_
  unfold En at E
  rw [E]
  exact W.aret F.exec F.code F.rt hrt (by cases o with | none => exact Or.inl rfl | some a => exact Or.inr ⟨a, rfl⟩) (fun t ht hW => ⟨_, h, rfl, hp, by rw [ht]; exact ⟨hS.1, hS.2.1, hS.2.2.1, fun x hx => by cases hx⟩⟩) hS.2.2.2 d (hlocks := F.locks)
end JH
