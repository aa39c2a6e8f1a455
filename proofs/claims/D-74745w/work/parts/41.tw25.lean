/-! WALKS THAT KNOW THE HEAP's SIZE: what is new lies next to what was new before it -/
def JZ (X : Cx) (h : Hp) (z : Nat) (pc : Nat) (lv : List (Nat × Value)) (st : List Value) (k n : Nat) : Prop := ∀ (H : Heap) (locs : List Loc) (ls : Array Slot), Sh (xG X) h H locs → H.size = z → lv_has ls (xnL X) lv → JW X H locs k n (F0 (xm X) pc ls st)
def CtZ (l : Launch) (G : Gt) (z : Nat) (y : MethodName) (cc : ByteArray) (nL : Nat) (ret : Option FieldType) (fr lo mc ms : Nat) (av : List Value) (h : Hp) (post : Option Value → Hp → Prop) : Prop :=
  Met l y (ws_ y cc nL ret) { frames := fr, cells := mc, slots := ms, locals := lo } (va_Pc av (fun U => Sh G h U.heap [] ∧ U.heap.size = z ∧ (gS G).WarmedH U.vm)) (hQ G post) mc ms (fun q => gN G ≤ q)
theorem ctz_of {l : Launch} {G : Gt} {z : Nat} {y : MethodName} {cc : ByteArray} {nL : Nat} {ret : Option FieldType} {fr lo mc ms : Nat} {av : List Value} {h : Hp} {post : Option Value → Hp → Prop} (KS : Ks l G) (hy : plainName y.cls = true) (hn : (lg_sl av).length ≤ nL)
    (body : ∀ X : Cx, Fx l G X y cc nL ret fr lo mc ms → En X post → JZ X h z 0 (lv_args 0 av) [] 0 0) : CtZ l G z y cc nL ret fr lo mc ms av h post := by
  refine Met.ofW (cc := cc) (maxL := nL) (ret := ret) hy rfl ?_
  intro p e s m args below meth c s₁ B hml hv
  obtain ⟨rfl, hS, hz, hW⟩ := hv
  have hts := atoms_spec (ws := ws_ y cc nL ret) B.pre
  have hts : ∀ w ∈ lw_all, w.before _ s = true := fun w h => hts w (List.mem_cons_of_mem _ h)
  rw [lg_entry_eq]
  exact body (G, l, { frames := fr, cells := mc, slots := ms, locals := lo }, nL, p, e, s, m, av.toArray, below, meth, c, MQ below (hQ G post) av.toArray s mc ms (fun q => gN G ≤ q)) ⟨rfl, rfl, rfl, rfl, B.exec, B.bytes, hml, findClass_of_methodNamed B.named, hts, B.returns, B.notSynchronized, (name_of_methodNamed B.named B.method).1, hW, KS⟩ rfl s.heap [] _ hS hz (lv_entry av hn)
section JZs
variable {l : Launch} {G : Gt} {X : Cx} {y : MethodName} {cc : ByteArray} {nL : Nat} {ret : Option FieldType} {fr lo mc ms : Nat} {h : Hp} {z : Nat} {pc : Nat} {lv : List (Nat × Value)} {st : List Value} {k n : Nat}
variable {y2 : MethodName} {cc2 : ByteArray} {nL2 : Nat} {ret2 : Option FieldType} {fr2 lo2 mc2 ms2 : Nat} {post : Option Value → Hp → Prop} {As rest : List Value} {idx : Nat}
theorem jz_of (K : J X h pc lv st k n) : JZ X h z pc lv st k n := fun H locs ls hS _ hl => K H locs ls hS hl
theorem z_iconst (F : Fx l G X y cc nL ret fr lo mc ms) {v : Int} (d : decode cc pc = .ok (.iconst v, 1)) (K : JZ X h z (pc + 1) lv (vI v :: st) k n) : JZ X h z pc lv (st) k n := fun H locs ls hS hz hl => by
  have q := K H locs ls hS hz hl
  exact lv_iconst F.exec F.code d rfl q
theorem z_bipush (F : Fx l G X y cc nL ret fr lo mc ms) {v : Int} (hv : (Int8.ofInt v).toInt32 = Int32.ofInt v) (d : decode cc pc = .ok (.bipush v, 2)) (K : JZ X h z (pc + 2) lv (vI v :: st) k n) : JZ X h z pc lv (st) k n := fun H locs ls hS hz hl => by
  have q := K H locs ls hS hz hl
  exact lv_bipush F.exec F.code d hv q
theorem z_sipush (F : Fx l G X y cc nL ret fr lo mc ms) {v : Int} (hv : (Int16.ofInt v).toInt32 = Int32.ofInt v) (d : decode cc pc = .ok (.sipush v, 3)) (K : JZ X h z (pc + 3) lv (vI v :: st) k n) : JZ X h z pc lv (st) k n := fun H locs ls hS hz hl => by
  have q := K H locs ls hS hz hl
  exact lv_sipush F.exec F.code d hv q
theorem z_aload_n (F : Fx l G X y cc nL ret fr lo mc ms) {j : Fin 4} {a : Nat} (hv : lg lv (j : Nat) = some (.ref a)) (d : decode cc pc = .ok (.aload_n j, 1)) (K : JZ X h z (pc + 1) lv (.ref a :: st) k n) : JZ X h z pc lv st k n := fun H locs ls hS hz hl =>
  lv_aload_n F.exec F.code d rfl (lg_at hl hv) (K H locs ls hS hz hl)
theorem z_dup (F : Fx l G X y cc nL ret fr lo mc ms) {v : Value} (hv : v.category = 1) (d : decode cc pc = .ok (.dup, 1)) (K : JZ X h z (pc + 1) lv (v :: v :: st) k n) : JZ X h z pc lv (v :: st) k n := fun H locs ls hS hz hl =>
  lv_dup F.exec F.code d hv (K H locs ls hS hz hl)
theorem z_lv {lv' : List (Nat × Value)} (hl : lh lv lv') (K : JZ X h z pc lv' st k n) : JZ X h z pc lv st k n := fun H locs ls hS hz hv => K H locs ls hS hz ⟨hv.1, hv.2.1, fun q hq => hv.2.2 q (lh_in lv' hl q hq)⟩
theorem z_h {h' : Hp} (e : h = h') (K : JZ X h' z pc lv st k n) : JZ X h z pc lv st k n := e ▸ K
theorem z_objInit (F : Fx l G X y cc nL ret fr lo mc ms) {a : Nat} (hli : Cond.methodLink y.cls idx Lib.objectInit ∈ lw_all) (hins : Cond.instanceMethod Lib.objectInit ∈ lw_all) (hco : Cond.code Lib.objectInit ⟨#[0xb1]⟩ 1 none ∈ lw_all) (hfr : 1 ≤ fr) (hlo : 20 ≤ lo) (hrs : (rest.map fun v => v.category).sum ≤ 8) (d : decode cc pc = .ok (.invokespecial idx, 3)) (K : JZ X h z (pc + 3) lv rest k n) : JZ X h z pc lv (.ref a :: rest) k n := fun H locs ls hS hz hl => by
  refine W.objInit F.exec F.code F.own (F.ts _ hli) (F.ts _ hins) (F.ts _ hco) rfl (by rw [F.ml, ← F.nl]; exact hl.1) rfl d (by rw [F.room]; exact hfr) ?_ (K H locs ls hS hz hl)
  have h8 := lv_room (m := xm X) (pc := pc) (ls := ls) (rest := .ref a :: rest) hrs
  rw [F.room]
  exact Nat.le_trans (Nat.add_le_add_right h8 12) hlo
theorem z_newarr0 (F : Fx l G X y cc nL ret fr lo mc ms) {at9 : ArrayType} {i : Int} {N j : Nat} {e9 : va_E} (t : Nat × Nat) (harr : Cond.arrayClass (newarray.typeOf at9) ∈ lw_all) (hj : (tysG G)[j]? = some (gA G j, newarray.typeOf at9)) (hra : va_RA (xs X) (gA G j) (newarray.typeOf at9) → (xs X).vm.findClass ("[" ++ (newarray.typeOf at9).toString) = some (gA G j)) (he : ∀ (q : Nat) (H : Heap), H[q]? = some (arrV (gA G j) N (fun _ => defaultValue (newarray.typeOf at9))) → va_at G.1 vCl (q, e9) H)
    (hi : i = N) (hb : N * componentBytes (newarray.typeOf at9) ≤ 536870912) (hN : N < 2147483648) (hk : k + 1 ≤ mc) (hn : n + N ≤ ms) (ht : t.1 ≤ z) (d : decode cc pc = .ok (.newarray at9, 2))
    (K : Ab h z → JZ X (hu h z (t, e9)) (z + 1) (pc + 2) lv (.ref z :: st) (k + 1) (n + N)) : JZ X h z pc lv (vI i :: st) k n := fun H locs ls hS hz hl => by
  subst hi
  subst hz
  refine va_newaK F.exec F.code (F.ts _ harr) rfl d rfl (N := N) (by rw [i_0, i_lt (by omega) (by omega)]; omega) (by rw [i_clamp (by omega)]; omega) hb (by rw [F.room]; exact hk) (by rw [F.room]; exact hn) rfl fun H1 cA e1 z1 o1 hAr hNm => ?_
  have hcA : cA = gA G j := Option.some.inj (hNm.symm.trans (hra (F.K.2 j _ hj).2))
  subst hcA
  refine K hS.ab H1 locs ls (hS.new ?_ z1 (fun q hq => o1 q hq) ht) z1 hl
  rw [F.g]
  exact he _ _ e1
theorem z_newI (F : Fx l G X y cc nL ret fr lo mc ms) {i : Int} (N : Nat) (t : Nat × Nat) (hi : i = N) (hN : N ≤ 100000) (hk : k + 1 ≤ mc) (hn : n + N ≤ ms) (ht : t.1 ≤ z) (d : decode cc pc = .ok (.newarray .int, 2))
    (K : Ab h z → JZ X (hu h z (t, aI (gA G 0) N (fun _ => 0))) (z + 1) (pc + 2) lv (.ref z :: st) (k + 1) (n + N)) : JZ X h z pc lv (vI i :: st) k n :=
  z_newarr0 F (at9 := .int) (N := N) (j := 0) (e9 := aI (gA G 0) N (fun _ => 0)) t q267 rfl id (fun q H e => e) hi (by show N * 4 ≤ _; omega) (by omega) hk hn ht d K
theorem z_newZ (F : Fx l G X y cc nL ret fr lo mc ms) {i : Int} (N : Nat) (t : Nat × Nat) (hi : i = N) (hN : N ≤ 100000) (hk : k + 1 ≤ mc) (hn : n + N ≤ ms) (ht : t.1 ≤ z) (d : decode cc pc = .ok (.newarray .boolean, 2))
    (K : Ab h z → JZ X (hu h z (t, aI (gA G 1) N (fun _ => 0))) (z + 1) (pc + 2) lv (.ref z :: st) (k + 1) (n + N)) : JZ X h z pc lv (vI i :: st) k n :=
  z_newarr0 F (at9 := .boolean) (N := N) (j := 1) (e9 := aI (gA G 1) N (fun _ => 0)) t q268 rfl id (fun q H e => e) hi (by show N * 1 ≤ _; omega) (by omega) hk hn ht d K
theorem z_newB (F : Fx l G X y cc nL ret fr lo mc ms) {i : Int} (N : Nat) (t : Nat × Nat) (hi : i = N) (hN : N ≤ 100000) (hk : k + 1 ≤ mc) (hn : n + N ≤ ms) (ht : t.1 ≤ z) (d : decode cc pc = .ok (.newarray .byte, 2))
    (K : Ab h z → JZ X (hu h z (t, aI (gA G 2) N (fun _ => 0))) (z + 1) (pc + 2) lv (.ref z :: st) (k + 1) (n + N)) : JZ X h z pc lv (vI i :: st) k n :=
  z_newarr0 F (at9 := .byte) (N := N) (j := 2) (e9 := aI (gA G 2) N (fun _ => 0)) t q290 rfl id (fun q H e => e) hi (by show N * 1 ≤ _; omega) (by omega) hk hn ht d K
/-- a new object, and its place is the heap's end -/
theorem jz_new (F : Fx l G X y cc nL ret fr lo mc ms) {C : String} {T : u_T} {N ci : Nat} {fs : List Value} (t : Nat → Nat × Nat) (hin : ∀ w ∈ u_ws C T N, w ∈ lw_all) (ty : Nat → FieldType) (hty : ∀ k, k < N → parseFieldDescriptor (T k).2.2.1 = some (ty k)) (hc : vCk[ci]? = some (C, T, N)) (hcl : Cond.classLink y.cls idx C ∈ lw_all) (hins : Cond.instantiable C N ∈ lw_all) (hini : Cond.initialized C ∈ lw_all) (hfs : ∀ j, j < N → defaultValue (ty j) = vp_V fs j) (hk : k + 1 ≤ mc) (hn : n + N ≤ ms) (ht : ∀ q, Ab h q → (t q).1 ≤ q) (d : decode cc pc = .ok (.new idx, 3))
    (K : ∀ q : Nat, Ab h q → JZ X (hu h q (t q, oB ci fs)) (q + 1) (pc + 3) lv (.ref q :: st) (k + 1) (n + N)) : J X h pc lv st k n := fun H locs ls hS hl => by
  have hKn := F.K.1 ci _ hc
  refine W.newcK F.exec F.code F.own (F.ts _ hcl) (F.ts _ hins) (F.ts _ hini) rfl d (by rw [F.room]; exact hk) (by rw [F.room]; exact hn) hKn.2.1 rfl fun H1 kC hkC e1 z1 o1 => ?_
  refine K H.size hS.ab H1 locs ls (hS.new ?_ z1 o1 (ht _ hS.ab)) z1 hl
  rw [F.g]
  exact ⟨_, vCk_l hc, (u_born ty F.ts hin hKn hkC e1 hty).to hfs⟩
theorem z_putF (F : Fx l G X y cc nL ret fr lo mc ms) {C : String} {T : u_T} {N ci : Nat} {a : Nat} {t : Nat × Nat} {fs : List Value} {v : Value} (hin : ∀ w ∈ u_ws C T N, w ∈ lw_all) (ty : Nat → FieldType) (hty : ∀ k, k < N → parseFieldDescriptor (T k).2.2.1 = some (ty k)) (hnm : ∀ a, a < N → ∀ b, b < N → a ≠ b → (T a).2.1 ≠ (T b).2.1) (hc : vCk[ci]? = some (C, T, N)) (i : Nat) (hi : i < N) (hlink : Cond.fieldLink y.cls idx (T i).1 (T i).2.1 (T i).2.2.1 ∈ lw_all) (hfin : (T i).2.2.2 = true) (hnam : y.name = "<init>") (hdecl : (T i).1 = y.cls) (ha : h a = some (t, oB ci fs)) (hl : i < fs.length) (hn : narrow (ty i) v = v) (hfit : fits (ty i) v = true) (d : decode cc pc = .ok (.putfield idx, 3)) (K : JZ X (hu h a (t, oB ci (fs.set i v))) z (pc + 3) lv st k n) : JZ X h z pc lv (v :: .ref a :: st) k n := fun H locs ls hS hz hll => by
  have hA := (hS.1 a t _ ha).1
  rw [F.g] at hA
  have hap := va_apart (own := C) F.ts hin ty hty hnm F.K hc
  obtain ⟨r, h1, cell, q1, q2, q3, q4⟩ := hA
  have hr : r = (C, T, N) := Option.some.inj (h1.symm.trans (vCk_l hc))
  subst hr
  obtain ⟨hSl, hfc, kC, hkC, hkind⟩ := F.K.1 ci _ hc
  obtain ⟨cf, kf, fi, f, hf, hsl⟩ := hSl i hi
  have hst := (u_facts hfc hkC (u_lays F.ts hin hi) hf).1
  have hlay := F.ts _ (hin _ (u_in_lay hi))
  unfold u_lay at hlay
  rw [if_pos hfin] at hlay
  have hcf : (xm X).cls = cf := by
    obtain ⟨_, _, c', _, _, _, -, -, hf', -, -, -, hown2, -⟩ := Cond.laysFinal_spec hlay
    have e1 : c' = cf := by have := hf.symm.trans hf'; simp at this; exact this.1.symm
    rw [hdecl] at hown2
    rw [← e1]; exact Option.some.inj (F.own.symm.trans hown2)
  refine W.putFinK F.exec F.code F.own (F.ts _ hlink) hf hst hcf (by rw [F.name]; exact hnam) (u_fits (by rw [q2]; exact hfc) (by rw [q2]; exact hkC) hkind (Or.inr hlay) hf (hty i hi) hn hfit) q1 q3 (by rw [hsl]; exact k2_hasslot (q4 i hi)) rfl rfl d fun H' e1 e2 e3 => ?_
  rw [hsl] at e1
  refine K H' _ ls (hS.set ha ?_ e2 e3) (e2.trans hz) hll
  rw [F.g]
  exact ⟨_, vCk_l hc, t_OB.to (V := updV (vp_V fs) i v) ⟨_, e1, q2, q3, t_set q4 hap hi v⟩ (fun j _ => vp_updV_set hl v j)⟩
theorem z_run (F : Fx l G X y cc nL ret fr lo mc ms) {a : Array Value} (hr : ∀ (H : Heap) (locs : List Loc) (ls : Array Slot), Sh (xG X) h H locs → H.size = z → lv_has ls (xnL X) lv → va_Run (xp X) (xl X) (xe X) (xR X) (xs X) (xm X) (xargs X) (xbelow X) (xmeth X) (xc X) H locs k n mc2 ms2 (F0 (xm X) pc ls st) rest (hQ G post a) (fun q => gN G ≤ q))
    (K : ∀ (r : Option Value) (h' : Hp), post r h' → J X h' (pc + 3) lv (r.toList ++ rest) (k + mc2) (n + ms2)) : JZ X h z pc lv st k n := by
  intro H locs ls hS hz hl T hT St
  obtain ⟨v, st₀, t, T', L, h0, X', hL, e1, e2, ⟨r, h', hv, hp, hS'⟩, hst⟩ := hr H locs ls hS hz hl T hT St
  cases hv
  have e := F.g
  obtain ⟨t2, a1, b1⟩ := K v h' hp T'.heap (locs ++ L) ls (by
    rw [e] at hS ⊢
    refine ⟨by rw [e1]; exact hS'.1, by rw [e1]; exact hS'.2.1, by rw [e1]; exact hS'.2.2.1, fun x hx => ?_⟩
    rcases List.mem_append.mp hx with h1 | h1
    · exact hS.2.2.2 x h1
    · exact hL x h1) hl T' rfl X'
  exact ⟨t2, hst t2 a1, b1⟩
theorem z_callI (F : Fx l G X y cc nL ret fr lo mc ms) {b : Nat} (hM : CtZ l G z y2 cc2 nL2 none fr2 lo2 mc2 ms2 (.ref b :: As) h post) (hG : Cond.code y2 cc2 nL2 none ∈ lw_all) (hini : Cond.initialized y2.cls ∈ lw_all) (hli : Cond.methodLink y.cls idx y2 ∈ lw_all) (hins : Cond.instanceMethod y2 ∈ lw_all) (hnm : y2.name = "<init>") (hd : y2.cls ≠ "java/lang/invoke/MethodHandle" ∧ y2.cls ≠ "java/lang/invoke/VarHandle" ∧ (parseMethodDescriptor y2.desc).map (fun d => d.parameters.length) = some As.length) (hR : fr2 + 1 ≤ fr ∧ 8 + (nL2 + 11) + lo2 ≤ lo) (hst : st = As.reverse ++ .ref b :: rest) (hrs : (rest.map fun v => v.category).sum ≤ 8) (hk : k + mc2 ≤ mc) (hn : n + ms2 ≤ ms) (d : decode cc pc = .ok (.invokespecial idx, 3))
    (K : ∀ (r : Option Value) (h' : Hp), post r h' → J X h' (pc + 3) lv (r.toList ++ rest) (k + mc2) (n + ms2)) : JZ X h z pc lv st k n := by
  have hM' : Met (xl X) y2 (ws_ y2 cc2 nL2 none) { frames := fr2, cells := mc2, slots := ms2, locals := lo2 } (va_Pc (.ref b :: As) (fun U => Sh G h U.heap [] ∧ U.heap.size = z ∧ (gS G).WarmedH U.vm)) (hQ G post) mc2 ms2 (fun q => gN G ≤ q) := by
    rw [F.la]
    exact hM
  refine z_run F (fun H locs ls hS hz hl => va_runI F.fix hM' (cwI As.length F.ts (lw_meth hG) rfl rfl rfl (F.ts _ hini) (F.ts _ hli) (F.ts _ hins) hnm hd (by rw [F.room]; exact hR)) ⟨fun a U g mk q => q, fun U hU hW => ⟨rfl, ?_, ?_, State.WarmedH.trans F.warm hW⟩⟩ rfl rfl (by rw [← F.nl]; exact hl.1) hst (lv_room hrs) d (by rw [F.room]; exact ⟨hk, hn⟩)) K
  · rw [F.g] at hS
    rw [hU]
    exact ⟨hS.1, hS.2.1, hS.2.2.1, fun x hx => by cases hx⟩
  · rw [hU]; exact hz
end JZs
/-- the reference at its birth -/
def dX3 : List Value := [vI 0, .null, .null, .null, .null, .null, .null, .null, .null, .null, vI 0, vI 0, .null, .null, .null, vI 0, vI 0, vI 0, .null, .null, vI 0, .null, vI 0, vI 0, vI 0, vI 0, .null, .null]
def bM : Mt := oM (oM (oM (oM (fun _ _ => 0) 1 12 (-1)) 1 13 (-1)) 1 14 (-1)) 1 15 (-1)
theorem pd_X3_init : yX3_init.cls ≠ "java/lang/invoke/MethodHandle" ∧ yX3_init.cls ≠ "java/lang/invoke/VarHandle" ∧ (parseMethodDescriptor yX3_init.desc).map (fun d => d.parameters.length) = some 0 := by decide +kernel
theorem ct_X3_init (l : Launch) (G : Gt) (KS : Ks l G) (x : Nat) (h : Hp) (hx0 : h x = some ((x, 0), oB 2 dX3)) : CtZ l G (x + 1) yX3_init cX3_init 1 none 2 (40 * 2) 17 54794 [.ref x] h (pV (fun h' => Tw G x bM h h')) := by
  refine ctz_of KS (by decide) (Nat.le_of_ble_eq_true rfl) (fun X F E => ?_)
  refine z_lv (lv' := [(0, .ref x)]) ⟨rfl, trivial⟩ ?_
  refine z_aload_n F rfl dX3_init_0 ?_
  refine z_objInit F q1485 q143 q144 (by decide) (by decide) (by decide) dX3_init_1 ?_
  refine z_aload_n F rfl dX3_init_4 ?_
  refine z_sipush F (by decide) dX3_init_5 ?_
  refine z_newI F (z := x + 1) 13326 (x, 1) rfl (by decide) (by omega) (by omega) (by show x ≤ x + 1; omega) dX3_init_8 (fun _ => ?_)
  refine z_putF F in_X3 tyX3 tyX3_ok nmX3 rfl 1 (by decide) q1487 rfl rfl rfl (t := (x, 0)) (fs := dX3) (by rw [hu_n _ _ (by omega)]; exact hx0) (Nat.le_of_ble_eq_true rfl) rfl rfl dX3_init_10 ?_
  obtain ⟨f1, hf1⟩ : ∃ f : List Value, f = dX3.set 1 (.ref (x + 1)) := ⟨_, rfl⟩
  obtain ⟨h1, e1⟩ : ∃ h' : Hp, h' = hu (hu h (x + 1) ((x, 1), aI (gA G 0) 13326 (fun _ => 0))) x ((x, 0), oB 2 (dX3.set 1 (.ref (x + 1)))) := ⟨_, rfl⟩
  refine z_h (h' := h1) e1.symm ?_
  have hx1 : h1 x = some ((x, 0), oB 2 f1) := by rw [e1, hu_s, hf1]
  have a1 : h1 (x + 1) = some ((x, 1), aI (gA G 0) 13326 (fun _ => 0)) := by rw [e1, hu_n _ _ (by omega), hu_s]
  have n1 : ∀ q : Nat, q ≠ x → q ≠ x + 1 → h1 q = h q := fun q q1 q2 => by rw [e1, hu_n _ _ q1, hu_n _ _ q2]
  refine z_aload_n F rfl dX3_init_13 ?_
  refine z_sipush F (by decide) dX3_init_14 ?_
  refine z_newI F (z := x + 2) 13326 (x, 2) rfl (by decide) (by omega) (by omega) (by show x ≤ x + 2; omega) dX3_init_17 (fun _ => ?_)
  refine z_putF F in_X3 tyX3 tyX3_ok nmX3 rfl 2 (by decide) q1488 rfl rfl rfl (t := (x, 0)) (fs := f1) (by rw [hu_n _ _ (by omega)]; exact hx1) (by rw [hf1]; exact Nat.le_of_ble_eq_true rfl) rfl rfl dX3_init_19 ?_
  obtain ⟨f2, hf2⟩ : ∃ f : List Value, f = f1.set 2 (.ref (x + 2)) := ⟨_, rfl⟩
  obtain ⟨h2, e2⟩ : ∃ h' : Hp, h' = hu (hu h1 (x + 2) ((x, 2), aI (gA G 0) 13326 (fun _ => 0))) x ((x, 0), oB 2 (f1.set 2 (.ref (x + 2)))) := ⟨_, rfl⟩
  refine z_h (h' := h2) e2.symm ?_
  have hx2 : h2 x = some ((x, 0), oB 2 f2) := by rw [e2, hu_s, hf2]
  have a2 : h2 (x + 2) = some ((x, 2), aI (gA G 0) 13326 (fun _ => 0)) := by rw [e2, hu_n _ _ (by omega), hu_s]
  have n2 : ∀ q : Nat, q ≠ x → q ≠ x + 2 → h2 q = h1 q := fun q q1 q2 => by rw [e2, hu_n _ _ q1, hu_n _ _ q2]
  rw [hf1] at hf2
  refine z_aload_n F rfl dX3_init_22 ?_
  refine z_sipush F (by decide) dX3_init_23 ?_
  refine z_newI F (z := x + 3) 26652 (x, 3) rfl (by decide) (by omega) (by omega) (by show x ≤ x + 3; omega) dX3_init_26 (fun _ => ?_)
  refine z_putF F in_X3 tyX3 tyX3_ok nmX3 rfl 3 (by decide) q1489 rfl rfl rfl (t := (x, 0)) (fs := f2) (by rw [hu_n _ _ (by omega)]; exact hx2) (by rw [hf2]; exact Nat.le_of_ble_eq_true rfl) rfl rfl dX3_init_28 ?_
  obtain ⟨f3, hf3⟩ : ∃ f : List Value, f = f2.set 3 (.ref (x + 3)) := ⟨_, rfl⟩
  obtain ⟨h3, e3⟩ : ∃ h' : Hp, h' = hu (hu h2 (x + 3) ((x, 3), aI (gA G 0) 26652 (fun _ => 0))) x ((x, 0), oB 2 (f2.set 3 (.ref (x + 3)))) := ⟨_, rfl⟩
  refine z_h (h' := h3) e3.symm ?_
  have hx3 : h3 x = some ((x, 0), oB 2 f3) := by rw [e3, hu_s, hf3]
  have a3 : h3 (x + 3) = some ((x, 3), aI (gA G 0) 26652 (fun _ => 0)) := by rw [e3, hu_n _ _ (by omega), hu_s]
  have n3 : ∀ q : Nat, q ≠ x → q ≠ x + 3 → h3 q = h2 q := fun q q1 q2 => by rw [e3, hu_n _ _ q1, hu_n _ _ q2]
  rw [hf2] at hf3
  refine z_aload_n F rfl dX3_init_31 ?_
  refine z_iconst F dX3_init_32 ?_
  refine z_newZ F (z := x + 4) 2 (x, 4) rfl (by decide) (by omega) (by omega) (by show x ≤ x + 4; omega) dX3_init_33 (fun _ => ?_)
  refine z_putF F in_X3 tyX3 tyX3_ok nmX3 rfl 4 (by decide) q1490 rfl rfl rfl (t := (x, 0)) (fs := f3) (by rw [hu_n _ _ (by omega)]; exact hx3) (by rw [hf3]; exact Nat.le_of_ble_eq_true rfl) rfl rfl dX3_init_35 ?_
  obtain ⟨f4, hf4⟩ : ∃ f : List Value, f = f3.set 4 (.ref (x + 4)) := ⟨_, rfl⟩
  obtain ⟨h4, e4⟩ : ∃ h' : Hp, h' = hu (hu h3 (x + 4) ((x, 4), aI (gA G 1) 2 (fun _ => 0))) x ((x, 0), oB 2 (f3.set 4 (.ref (x + 4)))) := ⟨_, rfl⟩
  refine z_h (h' := h4) e4.symm ?_
  have hx4 : h4 x = some ((x, 0), oB 2 f4) := by rw [e4, hu_s, hf4]
  have a4 : h4 (x + 4) = some ((x, 4), aI (gA G 1) 2 (fun _ => 0)) := by rw [e4, hu_n _ _ (by omega), hu_s]
  have n4 : ∀ q : Nat, q ≠ x → q ≠ x + 4 → h4 q = h3 q := fun q q1 q2 => by rw [e4, hu_n _ _ q1, hu_n _ _ q2]
  rw [hf3] at hf4
  refine z_aload_n F rfl dX3_init_38 ?_
  refine z_bipush F (by decide) dX3_init_39 ?_
  refine z_newI F (z := x + 5) 31 (x, 5) rfl (by decide) (by omega) (by omega) (by show x ≤ x + 5; omega) dX3_init_41 (fun _ => ?_)
  refine z_putF F in_X3 tyX3 tyX3_ok nmX3 rfl 5 (by decide) q1491 rfl rfl rfl (t := (x, 0)) (fs := f4) (by rw [hu_n _ _ (by omega)]; exact hx4) (by rw [hf4]; exact Nat.le_of_ble_eq_true rfl) rfl rfl dX3_init_43 ?_
  obtain ⟨f5, hf5⟩ : ∃ f : List Value, f = f4.set 5 (.ref (x + 5)) := ⟨_, rfl⟩
  obtain ⟨h5, e5⟩ : ∃ h' : Hp, h' = hu (hu h4 (x + 5) ((x, 5), aI (gA G 0) 31 (fun _ => 0))) x ((x, 0), oB 2 (f4.set 5 (.ref (x + 5)))) := ⟨_, rfl⟩
  refine z_h (h' := h5) e5.symm ?_
  have hx5 : h5 x = some ((x, 0), oB 2 f5) := by rw [e5, hu_s, hf5]
  have a5 : h5 (x + 5) = some ((x, 5), aI (gA G 0) 31 (fun _ => 0)) := by rw [e5, hu_n _ _ (by omega), hu_s]
  have n5 : ∀ q : Nat, q ≠ x → q ≠ x + 5 → h5 q = h4 q := fun q q1 q2 => by rw [e5, hu_n _ _ q1, hu_n _ _ q2]
  rw [hf4] at hf5
  refine z_aload_n F rfl dX3_init_46 ?_
  refine z_bipush F (by decide) dX3_init_47 ?_
  refine z_newI F (z := x + 6) 31 (x, 6) rfl (by decide) (by omega) (by omega) (by show x ≤ x + 6; omega) dX3_init_49 (fun _ => ?_)
  refine z_putF F in_X3 tyX3 tyX3_ok nmX3 rfl 6 (by decide) q1492 rfl rfl rfl (t := (x, 0)) (fs := f5) (by rw [hu_n _ _ (by omega)]; exact hx5) (by rw [hf5]; exact Nat.le_of_ble_eq_true rfl) rfl rfl dX3_init_51 ?_
  obtain ⟨f6, hf6⟩ : ∃ f : List Value, f = f5.set 6 (.ref (x + 6)) := ⟨_, rfl⟩
  obtain ⟨h6, e6⟩ : ∃ h' : Hp, h' = hu (hu h5 (x + 6) ((x, 6), aI (gA G 0) 31 (fun _ => 0))) x ((x, 0), oB 2 (f5.set 6 (.ref (x + 6)))) := ⟨_, rfl⟩
  refine z_h (h' := h6) e6.symm ?_
  have hx6 : h6 x = some ((x, 0), oB 2 f6) := by rw [e6, hu_s, hf6]
  have a6 : h6 (x + 6) = some ((x, 6), aI (gA G 0) 31 (fun _ => 0)) := by rw [e6, hu_n _ _ (by omega), hu_s]
  have n6 : ∀ q : Nat, q ≠ x → q ≠ x + 6 → h6 q = h5 q := fun q q1 q2 => by rw [e6, hu_n _ _ q1, hu_n _ _ q2]
  rw [hf5] at hf6
  refine z_aload_n F rfl dX3_init_54 ?_
  refine z_bipush F (by decide) dX3_init_55 ?_
  refine z_newI F (z := x + 7) 31 (x, 7) rfl (by decide) (by omega) (by omega) (by show x ≤ x + 7; omega) dX3_init_57 (fun _ => ?_)
  refine z_putF F in_X3 tyX3 tyX3_ok nmX3 rfl 7 (by decide) q1493 rfl rfl rfl (t := (x, 0)) (fs := f6) (by rw [hu_n _ _ (by omega)]; exact hx6) (by rw [hf6]; exact Nat.le_of_ble_eq_true rfl) rfl rfl dX3_init_59 ?_
  obtain ⟨f7, hf7⟩ : ∃ f : List Value, f = f6.set 7 (.ref (x + 7)) := ⟨_, rfl⟩
  obtain ⟨h7, e7⟩ : ∃ h' : Hp, h' = hu (hu h6 (x + 7) ((x, 7), aI (gA G 0) 31 (fun _ => 0))) x ((x, 0), oB 2 (f6.set 7 (.ref (x + 7)))) := ⟨_, rfl⟩
  refine z_h (h' := h7) e7.symm ?_
  have hx7 : h7 x = some ((x, 0), oB 2 f7) := by rw [e7, hu_s, hf7]
  have a7 : h7 (x + 7) = some ((x, 7), aI (gA G 0) 31 (fun _ => 0)) := by rw [e7, hu_n _ _ (by omega), hu_s]
  have n7 : ∀ q : Nat, q ≠ x → q ≠ x + 7 → h7 q = h6 q := fun q q1 q2 => by rw [e7, hu_n _ _ q1, hu_n _ _ q2]
  rw [hf6] at hf7
  refine z_aload_n F rfl dX3_init_62 ?_
  refine z_bipush F (by decide) dX3_init_63 ?_
  refine z_newI F (z := x + 8) 31 (x, 8) rfl (by decide) (by omega) (by omega) (by show x ≤ x + 8; omega) dX3_init_65 (fun _ => ?_)
  refine z_putF F in_X3 tyX3 tyX3_ok nmX3 rfl 8 (by decide) q1494 rfl rfl rfl (t := (x, 0)) (fs := f7) (by rw [hu_n _ _ (by omega)]; exact hx7) (by rw [hf7]; exact Nat.le_of_ble_eq_true rfl) rfl rfl dX3_init_67 ?_
  obtain ⟨f8, hf8⟩ : ∃ f : List Value, f = f7.set 8 (.ref (x + 8)) := ⟨_, rfl⟩
  obtain ⟨h8, e8⟩ : ∃ h' : Hp, h' = hu (hu h7 (x + 8) ((x, 8), aI (gA G 0) 31 (fun _ => 0))) x ((x, 0), oB 2 (f7.set 8 (.ref (x + 8)))) := ⟨_, rfl⟩
  refine z_h (h' := h8) e8.symm ?_
  have hx8 : h8 x = some ((x, 0), oB 2 f8) := by rw [e8, hu_s, hf8]
  have a8 : h8 (x + 8) = some ((x, 8), aI (gA G 0) 31 (fun _ => 0)) := by rw [e8, hu_n _ _ (by omega), hu_s]
  have n8 : ∀ q : Nat, q ≠ x → q ≠ x + 8 → h8 q = h7 q := fun q q1 q2 => by rw [e8, hu_n _ _ q1, hu_n _ _ q2]
  rw [hf7] at hf8
  refine z_aload_n F rfl dX3_init_70 ?_
  refine z_bipush F (by decide) dX3_init_71 ?_
  refine z_newI F (z := x + 9) 30 (x, 9) rfl (by decide) (by omega) (by omega) (by show x ≤ x + 9; omega) dX3_init_73 (fun _ => ?_)
  refine z_putF F in_X3 tyX3 tyX3_ok nmX3 rfl 9 (by decide) q1495 rfl rfl rfl (t := (x, 0)) (fs := f8) (by rw [hu_n _ _ (by omega)]; exact hx8) (by rw [hf8]; exact Nat.le_of_ble_eq_true rfl) rfl rfl dX3_init_75 ?_
  obtain ⟨f9, hf9⟩ : ∃ f : List Value, f = f8.set 9 (.ref (x + 9)) := ⟨_, rfl⟩
  obtain ⟨h9, e9⟩ : ∃ h' : Hp, h' = hu (hu h8 (x + 9) ((x, 9), aI (gA G 0) 30 (fun _ => 0))) x ((x, 0), oB 2 (f8.set 9 (.ref (x + 9)))) := ⟨_, rfl⟩
  refine z_h (h' := h9) e9.symm ?_
  have hx9 : h9 x = some ((x, 0), oB 2 f9) := by rw [e9, hu_s, hf9]
  have a9 : h9 (x + 9) = some ((x, 9), aI (gA G 0) 30 (fun _ => 0)) := by rw [e9, hu_n _ _ (by omega), hu_s]
  have n9 : ∀ q : Nat, q ≠ x → q ≠ x + 9 → h9 q = h8 q := fun q q1 q2 => by rw [e9, hu_n _ _ q1, hu_n _ _ q2]
  rw [hf8] at hf9
  refine z_aload_n F rfl dX3_init_78 ?_
  refine z_bipush F (by decide) dX3_init_79 ?_
  refine z_newZ F (z := x + 10) 31 (x, 10) rfl (by decide) (by omega) (by omega) (by show x ≤ x + 10; omega) dX3_init_81 (fun _ => ?_)
  refine z_putF F in_X3 tyX3 tyX3_ok nmX3 rfl 12 (by decide) q1498 rfl rfl rfl (t := (x, 0)) (fs := f9) (by rw [hu_n _ _ (by omega)]; exact hx9) (by rw [hf9]; exact Nat.le_of_ble_eq_true rfl) rfl rfl dX3_init_83 ?_
  obtain ⟨f10, hf10⟩ : ∃ f : List Value, f = f9.set 12 (.ref (x + 10)) := ⟨_, rfl⟩
  obtain ⟨h10, e10⟩ : ∃ h' : Hp, h' = hu (hu h9 (x + 10) ((x, 10), aI (gA G 1) 31 (fun _ => 0))) x ((x, 0), oB 2 (f9.set 12 (.ref (x + 10)))) := ⟨_, rfl⟩
  refine z_h (h' := h10) e10.symm ?_
  have hx10 : h10 x = some ((x, 0), oB 2 f10) := by rw [e10, hu_s, hf10]
  have a10 : h10 (x + 10) = some ((x, 10), aI (gA G 1) 31 (fun _ => 0)) := by rw [e10, hu_n _ _ (by omega), hu_s]
  have n10 : ∀ q : Nat, q ≠ x → q ≠ x + 10 → h10 q = h9 q := fun q q1 q2 => by rw [e10, hu_n _ _ q1, hu_n _ _ q2]
  rw [hf9] at hf10
  refine z_aload_n F rfl dX3_init_86 ?_
  refine z_bipush F (by decide) dX3_init_87 ?_
  refine z_newZ F (z := x + 11) 31 (x, 11) rfl (by decide) (by omega) (by omega) (by show x ≤ x + 11; omega) dX3_init_89 (fun _ => ?_)
  refine z_putF F in_X3 tyX3 tyX3_ok nmX3 rfl 13 (by decide) q1499 rfl rfl rfl (t := (x, 0)) (fs := f10) (by rw [hu_n _ _ (by omega)]; exact hx10) (by rw [hf10]; exact Nat.le_of_ble_eq_true rfl) rfl rfl dX3_init_91 ?_
  obtain ⟨f11, hf11⟩ : ∃ f : List Value, f = f10.set 13 (.ref (x + 11)) := ⟨_, rfl⟩
  obtain ⟨h11, e11⟩ : ∃ h' : Hp, h' = hu (hu h10 (x + 11) ((x, 11), aI (gA G 1) 31 (fun _ => 0))) x ((x, 0), oB 2 (f10.set 13 (.ref (x + 11)))) := ⟨_, rfl⟩
  refine z_h (h' := h11) e11.symm ?_
  have hx11 : h11 x = some ((x, 0), oB 2 f11) := by rw [e11, hu_s, hf11]
  have a11 : h11 (x + 11) = some ((x, 11), aI (gA G 1) 31 (fun _ => 0)) := by rw [e11, hu_n _ _ (by omega), hu_s]
  have n11 : ∀ q : Nat, q ≠ x → q ≠ x + 11 → h11 q = h10 q := fun q q1 q2 => by rw [e11, hu_n _ _ q1, hu_n _ _ q2]
  rw [hf10] at hf11
  refine z_aload_n F rfl dX3_init_94 ?_
  refine z_bipush F (by decide) dX3_init_95 ?_
  refine z_newZ F (z := x + 12) 31 (x, 12) rfl (by decide) (by omega) (by omega) (by show x ≤ x + 12; omega) dX3_init_97 (fun _ => ?_)
  refine z_putF F in_X3 tyX3 tyX3_ok nmX3 rfl 14 (by decide) q1500 rfl rfl rfl (t := (x, 0)) (fs := f11) (by rw [hu_n _ _ (by omega)]; exact hx11) (by rw [hf11]; exact Nat.le_of_ble_eq_true rfl) rfl rfl dX3_init_99 ?_
  obtain ⟨f12, hf12⟩ : ∃ f : List Value, f = f11.set 14 (.ref (x + 12)) := ⟨_, rfl⟩
  obtain ⟨h12, e12⟩ : ∃ h' : Hp, h' = hu (hu h11 (x + 12) ((x, 12), aI (gA G 1) 31 (fun _ => 0))) x ((x, 0), oB 2 (f11.set 14 (.ref (x + 12)))) := ⟨_, rfl⟩
  refine z_h (h' := h12) e12.symm ?_
  have hx12 : h12 x = some ((x, 0), oB 2 f12) := by rw [e12, hu_s, hf12]
  have a12 : h12 (x + 12) = some ((x, 12), aI (gA G 1) 31 (fun _ => 0)) := by rw [e12, hu_n _ _ (by omega), hu_s]
  have n12 : ∀ q : Nat, q ≠ x → q ≠ x + 12 → h12 q = h11 q := fun q q1 q2 => by rw [e12, hu_n _ _ q1, hu_n _ _ q2]
  rw [hf11] at hf12
  refine z_aload_n F rfl dX3_init_102 ?_
  refine z_sipush F (by decide) dX3_init_103 ?_
  refine z_newI F (z := x + 13) 400 (x, 13) rfl (by decide) (by omega) (by omega) (by show x ≤ x + 13; omega) dX3_init_106 (fun _ => ?_)
  refine z_putF F in_X3 tyX3 tyX3_ok nmX3 rfl 18 (by decide) q1504 rfl rfl rfl (t := (x, 0)) (fs := f12) (by rw [hu_n _ _ (by omega)]; exact hx12) (by rw [hf12]; exact Nat.le_of_ble_eq_true rfl) rfl rfl dX3_init_108 ?_
  obtain ⟨f13, hf13⟩ : ∃ f : List Value, f = f12.set 18 (.ref (x + 13)) := ⟨_, rfl⟩
  obtain ⟨h13, e13⟩ : ∃ h' : Hp, h' = hu (hu h12 (x + 13) ((x, 13), aI (gA G 0) 400 (fun _ => 0))) x ((x, 0), oB 2 (f12.set 18 (.ref (x + 13)))) := ⟨_, rfl⟩
  refine z_h (h' := h13) e13.symm ?_
  have hx13 : h13 x = some ((x, 0), oB 2 f13) := by rw [e13, hu_s, hf13]
  have a13 : h13 (x + 13) = some ((x, 13), aI (gA G 0) 400 (fun _ => 0)) := by rw [e13, hu_n _ _ (by omega), hu_s]
  have n13 : ∀ q : Nat, q ≠ x → q ≠ x + 13 → h13 q = h12 q := fun q q1 q2 => by rw [e13, hu_n _ _ q1, hu_n _ _ q2]
  rw [hf12] at hf13
  refine z_aload_n F rfl dX3_init_111 ?_
  refine z_sipush F (by decide) dX3_init_112 ?_
  refine z_newI F (z := x + 14) 402 (x, 14) rfl (by decide) (by omega) (by omega) (by show x ≤ x + 14; omega) dX3_init_115 (fun _ => ?_)
  refine z_putF F in_X3 tyX3 tyX3_ok nmX3 rfl 19 (by decide) q1505 rfl rfl rfl (t := (x, 0)) (fs := f13) (by rw [hu_n _ _ (by omega)]; exact hx13) (by rw [hf13]; exact Nat.le_of_ble_eq_true rfl) rfl rfl dX3_init_117 ?_
  obtain ⟨f14, hf14⟩ : ∃ f : List Value, f = f13.set 19 (.ref (x + 14)) := ⟨_, rfl⟩
  obtain ⟨h14, e14⟩ : ∃ h' : Hp, h' = hu (hu h13 (x + 14) ((x, 14), aI (gA G 0) 402 (fun _ => 0))) x ((x, 0), oB 2 (f13.set 19 (.ref (x + 14)))) := ⟨_, rfl⟩
  refine z_h (h' := h14) e14.symm ?_
  have hx14 : h14 x = some ((x, 0), oB 2 f14) := by rw [e14, hu_s, hf14]
  have a14 : h14 (x + 14) = some ((x, 14), aI (gA G 0) 402 (fun _ => 0)) := by rw [e14, hu_n _ _ (by omega), hu_s]
  have n14 : ∀ q : Nat, q ≠ x → q ≠ x + 14 → h14 q = h13 q := fun q q1 q2 => by rw [e14, hu_n _ _ q1, hu_n _ _ q2]
  rw [hf13] at hf14
  refine z_aload_n F rfl dX3_init_120 ?_
  refine z_sipush F (by decide) dX3_init_121 ?_
  refine z_newB F (z := x + 15) 400 (x, 15) rfl (by decide) (by omega) (by omega) (by show x ≤ x + 15; omega) dX3_init_124 (fun _ => ?_)
  refine z_putF F in_X3 tyX3 tyX3_ok nmX3 rfl 21 (by decide) q1507 rfl rfl rfl (t := (x, 0)) (fs := f14) (by rw [hu_n _ _ (by omega)]; exact hx14) (by rw [hf14]; exact Nat.le_of_ble_eq_true rfl) rfl rfl dX3_init_126 ?_
  obtain ⟨f15, hf15⟩ : ∃ f : List Value, f = f14.set 21 (.ref (x + 15)) := ⟨_, rfl⟩
  obtain ⟨h15, e15⟩ : ∃ h' : Hp, h' = hu (hu h14 (x + 15) ((x, 15), aI (gA G 2) 400 (fun _ => 0))) x ((x, 0), oB 2 (f14.set 21 (.ref (x + 15)))) := ⟨_, rfl⟩
  refine z_h (h' := h15) e15.symm ?_
  have hx15 : h15 x = some ((x, 0), oB 2 f15) := by rw [e15, hu_s, hf15]
  have a15 : h15 (x + 15) = some ((x, 15), aI (gA G 2) 400 (fun _ => 0)) := by rw [e15, hu_n _ _ (by omega), hu_s]
  have n15 : ∀ q : Nat, q ≠ x → q ≠ x + 15 → h15 q = h14 q := fun q q1 q2 => by rw [e15, hu_n _ _ q1, hu_n _ _ q2]
  rw [hf14] at hf15
  refine z_aload_n F rfl dX3_init_129 ?_
  refine z_bipush F (by decide) dX3_init_130 ?_
  refine z_newZ F (z := x + 16) 31 (x, 16) rfl (by decide) (by omega) (by omega) (by show x ≤ x + 16; omega) dX3_init_132 (fun _ => ?_)
  refine z_putF F in_X3 tyX3 tyX3_ok nmX3 rfl 26 (by decide) q1512 rfl rfl rfl (t := (x, 0)) (fs := f15) (by rw [hu_n _ _ (by omega)]; exact hx15) (by rw [hf15]; exact Nat.le_of_ble_eq_true rfl) rfl rfl dX3_init_134 ?_
  obtain ⟨f16, hf16⟩ : ∃ f : List Value, f = f15.set 26 (.ref (x + 16)) := ⟨_, rfl⟩
  obtain ⟨h16, e16⟩ : ∃ h' : Hp, h' = hu (hu h15 (x + 16) ((x, 16), aI (gA G 1) 31 (fun _ => 0))) x ((x, 0), oB 2 (f15.set 26 (.ref (x + 16)))) := ⟨_, rfl⟩
  refine z_h (h' := h16) e16.symm ?_
  have hx16 : h16 x = some ((x, 0), oB 2 f16) := by rw [e16, hu_s, hf16]
  have a16 : h16 (x + 16) = some ((x, 16), aI (gA G 1) 31 (fun _ => 0)) := by rw [e16, hu_n _ _ (by omega), hu_s]
  have n16 : ∀ q : Nat, q ≠ x → q ≠ x + 16 → h16 q = h15 q := fun q q1 q2 => by rw [e16, hu_n _ _ q1, hu_n _ _ q2]
  rw [hf15] at hf16
  refine z_aload_n F rfl dX3_init_137 ?_
  refine z_bipush F (by decide) dX3_init_138 ?_
  refine z_newI F (z := x + 17) 8 (x, 17) rfl (by decide) (by omega) (by omega) (by show x ≤ x + 17; omega) dX3_init_140 (fun _ => ?_)
  refine z_putF F in_X3 tyX3 tyX3_ok nmX3 rfl 27 (by decide) q1513 rfl rfl rfl (t := (x, 0)) (fs := f16) (by rw [hu_n _ _ (by omega)]; exact hx16) (by rw [hf16]; exact Nat.le_of_ble_eq_true rfl) rfl rfl dX3_init_142 ?_
  obtain ⟨f17, hf17⟩ : ∃ f : List Value, f = f16.set 27 (.ref (x + 17)) := ⟨_, rfl⟩
  obtain ⟨h17, e17⟩ : ∃ h' : Hp, h' = hu (hu h16 (x + 17) ((x, 17), aI (gA G 0) 8 (fun _ => 0))) x ((x, 0), oB 2 (f16.set 27 (.ref (x + 17)))) := ⟨_, rfl⟩
  refine z_h (h' := h17) e17.symm ?_
  have hx17 : h17 x = some ((x, 0), oB 2 f17) := by rw [e17, hu_s, hf17]
  have a17 : h17 (x + 17) = some ((x, 17), aI (gA G 0) 8 (fun _ => 0)) := by rw [e17, hu_n _ _ (by omega), hu_s]
  have n17 : ∀ q : Nat, q ≠ x → q ≠ x + 17 → h17 q = h16 q := fun q q1 q2 => by rw [e17, hu_n _ _ q1, hu_n _ _ q2]
  rw [hf16] at hf17
  have hff : f17 = tfs x (fun _ _ => 0) := by rw [hf17]; rfl
  rw [hff] at hx17
  have hT : Tw G x (fun _ _ => 0) h h17 := by
    refine ⟨hx17, fun k j N c hm => ?_, fun q hq => ?_⟩
    · simp only [twT, List.mem_cons, Prod.mk.injEq, List.mem_nil_iff, or_false] at hm
      rcases hm with ⟨rfl, rfl, rfl, rfl⟩ | ⟨rfl, rfl, rfl, rfl⟩ | ⟨rfl, rfl, rfl, rfl⟩ | ⟨rfl, rfl, rfl, rfl⟩ | ⟨rfl, rfl, rfl, rfl⟩ | ⟨rfl, rfl, rfl, rfl⟩ | ⟨rfl, rfl, rfl, rfl⟩ | ⟨rfl, rfl, rfl, rfl⟩ | ⟨rfl, rfl, rfl, rfl⟩ | ⟨rfl, rfl, rfl, rfl⟩ | ⟨rfl, rfl, rfl, rfl⟩ | ⟨rfl, rfl, rfl, rfl⟩ | ⟨rfl, rfl, rfl, rfl⟩ | ⟨rfl, rfl, rfl, rfl⟩ | ⟨rfl, rfl, rfl, rfl⟩ | ⟨rfl, rfl, rfl, rfl⟩ | ⟨rfl, rfl, rfl, rfl⟩
      · rw [n17 (x + 1) (by omega) (by omega)]; rw [n16 (x + 1) (by omega) (by omega)]; rw [n15 (x + 1) (by omega) (by omega)]; rw [n14 (x + 1) (by omega) (by omega)]; rw [n13 (x + 1) (by omega) (by omega)]; rw [n12 (x + 1) (by omega) (by omega)]; rw [n11 (x + 1) (by omega) (by omega)]; rw [n10 (x + 1) (by omega) (by omega)]; rw [n9 (x + 1) (by omega) (by omega)]; rw [n8 (x + 1) (by omega) (by omega)]; rw [n7 (x + 1) (by omega) (by omega)]; rw [n6 (x + 1) (by omega) (by omega)]; rw [n5 (x + 1) (by omega) (by omega)]; rw [n4 (x + 1) (by omega) (by omega)]; rw [n3 (x + 1) (by omega) (by omega)]; rw [n2 (x + 1) (by omega) (by omega)]; exact a1
      · rw [n17 (x + 2) (by omega) (by omega)]; rw [n16 (x + 2) (by omega) (by omega)]; rw [n15 (x + 2) (by omega) (by omega)]; rw [n14 (x + 2) (by omega) (by omega)]; rw [n13 (x + 2) (by omega) (by omega)]; rw [n12 (x + 2) (by omega) (by omega)]; rw [n11 (x + 2) (by omega) (by omega)]; rw [n10 (x + 2) (by omega) (by omega)]; rw [n9 (x + 2) (by omega) (by omega)]; rw [n8 (x + 2) (by omega) (by omega)]; rw [n7 (x + 2) (by omega) (by omega)]; rw [n6 (x + 2) (by omega) (by omega)]; rw [n5 (x + 2) (by omega) (by omega)]; rw [n4 (x + 2) (by omega) (by omega)]; rw [n3 (x + 2) (by omega) (by omega)]; exact a2
      · rw [n17 (x + 3) (by omega) (by omega)]; rw [n16 (x + 3) (by omega) (by omega)]; rw [n15 (x + 3) (by omega) (by omega)]; rw [n14 (x + 3) (by omega) (by omega)]; rw [n13 (x + 3) (by omega) (by omega)]; rw [n12 (x + 3) (by omega) (by omega)]; rw [n11 (x + 3) (by omega) (by omega)]; rw [n10 (x + 3) (by omega) (by omega)]; rw [n9 (x + 3) (by omega) (by omega)]; rw [n8 (x + 3) (by omega) (by omega)]; rw [n7 (x + 3) (by omega) (by omega)]; rw [n6 (x + 3) (by omega) (by omega)]; rw [n5 (x + 3) (by omega) (by omega)]; rw [n4 (x + 3) (by omega) (by omega)]; exact a3
      · rw [n17 (x + 4) (by omega) (by omega)]; rw [n16 (x + 4) (by omega) (by omega)]; rw [n15 (x + 4) (by omega) (by omega)]; rw [n14 (x + 4) (by omega) (by omega)]; rw [n13 (x + 4) (by omega) (by omega)]; rw [n12 (x + 4) (by omega) (by omega)]; rw [n11 (x + 4) (by omega) (by omega)]; rw [n10 (x + 4) (by omega) (by omega)]; rw [n9 (x + 4) (by omega) (by omega)]; rw [n8 (x + 4) (by omega) (by omega)]; rw [n7 (x + 4) (by omega) (by omega)]; rw [n6 (x + 4) (by omega) (by omega)]; rw [n5 (x + 4) (by omega) (by omega)]; exact a4
      · rw [n17 (x + 5) (by omega) (by omega)]; rw [n16 (x + 5) (by omega) (by omega)]; rw [n15 (x + 5) (by omega) (by omega)]; rw [n14 (x + 5) (by omega) (by omega)]; rw [n13 (x + 5) (by omega) (by omega)]; rw [n12 (x + 5) (by omega) (by omega)]; rw [n11 (x + 5) (by omega) (by omega)]; rw [n10 (x + 5) (by omega) (by omega)]; rw [n9 (x + 5) (by omega) (by omega)]; rw [n8 (x + 5) (by omega) (by omega)]; rw [n7 (x + 5) (by omega) (by omega)]; rw [n6 (x + 5) (by omega) (by omega)]; exact a5
      · rw [n17 (x + 6) (by omega) (by omega)]; rw [n16 (x + 6) (by omega) (by omega)]; rw [n15 (x + 6) (by omega) (by omega)]; rw [n14 (x + 6) (by omega) (by omega)]; rw [n13 (x + 6) (by omega) (by omega)]; rw [n12 (x + 6) (by omega) (by omega)]; rw [n11 (x + 6) (by omega) (by omega)]; rw [n10 (x + 6) (by omega) (by omega)]; rw [n9 (x + 6) (by omega) (by omega)]; rw [n8 (x + 6) (by omega) (by omega)]; rw [n7 (x + 6) (by omega) (by omega)]; exact a6
      · rw [n17 (x + 7) (by omega) (by omega)]; rw [n16 (x + 7) (by omega) (by omega)]; rw [n15 (x + 7) (by omega) (by omega)]; rw [n14 (x + 7) (by omega) (by omega)]; rw [n13 (x + 7) (by omega) (by omega)]; rw [n12 (x + 7) (by omega) (by omega)]; rw [n11 (x + 7) (by omega) (by omega)]; rw [n10 (x + 7) (by omega) (by omega)]; rw [n9 (x + 7) (by omega) (by omega)]; rw [n8 (x + 7) (by omega) (by omega)]; exact a7
      · rw [n17 (x + 8) (by omega) (by omega)]; rw [n16 (x + 8) (by omega) (by omega)]; rw [n15 (x + 8) (by omega) (by omega)]; rw [n14 (x + 8) (by omega) (by omega)]; rw [n13 (x + 8) (by omega) (by omega)]; rw [n12 (x + 8) (by omega) (by omega)]; rw [n11 (x + 8) (by omega) (by omega)]; rw [n10 (x + 8) (by omega) (by omega)]; rw [n9 (x + 8) (by omega) (by omega)]; exact a8
      · rw [n17 (x + 9) (by omega) (by omega)]; rw [n16 (x + 9) (by omega) (by omega)]; rw [n15 (x + 9) (by omega) (by omega)]; rw [n14 (x + 9) (by omega) (by omega)]; rw [n13 (x + 9) (by omega) (by omega)]; rw [n12 (x + 9) (by omega) (by omega)]; rw [n11 (x + 9) (by omega) (by omega)]; rw [n10 (x + 9) (by omega) (by omega)]; exact a9
      · rw [n17 (x + 10) (by omega) (by omega)]; rw [n16 (x + 10) (by omega) (by omega)]; rw [n15 (x + 10) (by omega) (by omega)]; rw [n14 (x + 10) (by omega) (by omega)]; rw [n13 (x + 10) (by omega) (by omega)]; rw [n12 (x + 10) (by omega) (by omega)]; rw [n11 (x + 10) (by omega) (by omega)]; exact a10
      · rw [n17 (x + 11) (by omega) (by omega)]; rw [n16 (x + 11) (by omega) (by omega)]; rw [n15 (x + 11) (by omega) (by omega)]; rw [n14 (x + 11) (by omega) (by omega)]; rw [n13 (x + 11) (by omega) (by omega)]; rw [n12 (x + 11) (by omega) (by omega)]; exact a11
      · rw [n17 (x + 12) (by omega) (by omega)]; rw [n16 (x + 12) (by omega) (by omega)]; rw [n15 (x + 12) (by omega) (by omega)]; rw [n14 (x + 12) (by omega) (by omega)]; rw [n13 (x + 12) (by omega) (by omega)]; exact a12
      · rw [n17 (x + 13) (by omega) (by omega)]; rw [n16 (x + 13) (by omega) (by omega)]; rw [n15 (x + 13) (by omega) (by omega)]; rw [n14 (x + 13) (by omega) (by omega)]; exact a13
      · rw [n17 (x + 14) (by omega) (by omega)]; rw [n16 (x + 14) (by omega) (by omega)]; rw [n15 (x + 14) (by omega) (by omega)]; exact a14
      · rw [n17 (x + 15) (by omega) (by omega)]; rw [n16 (x + 15) (by omega) (by omega)]; exact a15
      · rw [n17 (x + 16) (by omega) (by omega)]; exact a16
      · exact a17
    · rw [n17 q (by omega) (by omega)]; rw [n16 q (by omega) (by omega)]; rw [n15 q (by omega) (by omega)]; rw [n14 q (by omega) (by omega)]; rw [n13 q (by omega) (by omega)]; rw [n12 q (by omega) (by omega)]; rw [n11 q (by omega) (by omega)]; rw [n10 q (by omega) (by omega)]; rw [n9 q (by omega) (by omega)]; rw [n8 q (by omega) (by omega)]; rw [n7 q (by omega) (by omega)]; rw [n6 q (by omega) (by omega)]; rw [n5 q (by omega) (by omega)]; rw [n4 q (by omega) (by omega)]; rw [n3 q (by omega) (by omega)]; rw [n2 q (by omega) (by omega)]; rw [n1 q (by omega) (by omega)]
  refine jz_of ?_
  refine j_aload_n F rfl dX3_init_145 ?_
  refine t_get F hT 1 (by decide) rfl q1487 dX3_init_146 ?_
  refine j_bipush F (by decide) dX3_init_149 ?_
  refine j_iconst F dX3_init_151 ?_
  refine t_iast F hT 1 tm_1 rfl (by omega) dX3_init_152 (fun h9 hT => ?_)
  refine j_aload_n F rfl dX3_init_153 ?_
  refine t_get F hT 1 (by decide) rfl q1487 dX3_init_154 ?_
  refine j_bipush F (by decide) dX3_init_157 ?_
  refine j_iconst F dX3_init_159 ?_
  refine t_iast F hT 1 tm_1 rfl (by omega) dX3_init_160 (fun h9 hT => ?_)
  refine j_aload_n F rfl dX3_init_161 ?_
  refine t_get F hT 1 (by decide) rfl q1487 dX3_init_162 ?_
  refine j_bipush F (by decide) dX3_init_165 ?_
  refine j_iconst F dX3_init_167 ?_
  refine t_iast F hT 1 tm_1 rfl (by omega) dX3_init_168 (fun h9 hT => ?_)
  refine j_aload_n F rfl dX3_init_169 ?_
  refine t_get F hT 1 (by decide) rfl q1487 dX3_init_170 ?_
  refine j_bipush F (by decide) dX3_init_173 ?_
  refine j_iconst F dX3_init_175 ?_
  refine t_iast F hT 1 tm_1 rfl (by omega) dX3_init_176 (fun h9 hT => ?_)
  exact j_vret F E (by omega) (by omega) dX3_init_177 ⟨rfl, hT⟩
