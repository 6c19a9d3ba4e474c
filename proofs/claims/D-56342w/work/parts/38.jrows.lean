set_option maxRecDepth 100000
/-- an object that may lie in an array of objects -/
def pb_El (w : pb_W) (H : Heap) (v : Nat) : Prop := ∃ (ci : Nat) (r : vw_C) (fs : List Value), pb_R w H v ci fs ∧ pb_cl[ci]? = some r ∧ Cond.castable r.1 "java/lang/Object" ∈ lw_tbl
theorem pb_El.kept {w : pb_W} {H H1 : Heap} {v : Nat} (h : pb_El w H v) (e : H1[v]? = H[v]?) : pb_El w H1 v := by
  obtain ⟨ci, r, fs, h1, h2, h3⟩ := h
  exact ⟨ci, r, fs, h1.kept e, h2, h3⟩
theorem pb_El.lt {w : pb_W} {H : Heap} {v : Nat} (h : pb_El w H v) : v < H.size := by
  obtain ⟨ci, r, fs, h1, h2, h3⟩ := h
  exact h1.lt
section PBJ
variable {zs : Nat} {p : Program} {l : Launch} {e : Env} {R : Room} {s : State} {m : MethodId} {args : Array Value} {below : List Frame} {meth : Method} {c : Code} {H : Heap} {bc bs : Nat} {Q : State → Prop}
variable {w : pb_W} {cc : ByteArray} {nL : Nat} {own nm : String} {ret : Option FieldType} {pc : Nat} {ls : Array Slot} {rest : List Value}
theorem pb_any (C : pb_C w p s m meth c args cc nL own nm ret) {v : Nat} (h : pb_El w H v) : va_Any "java/lang/Object" s H v := by
  obtain ⟨ci, r, fs, hR, hc, hq⟩ := h
  obtain ⟨Cn, T, N⟩ := r
  obtain ⟨cell, g1, g2, g3⟩ := pb_recv C hR hc
  obtain ⟨kC, hkC, -⟩ := Vm.findClass_spec g3
  obtain ⟨c0, t0, f1, f2, f3⟩ := Cond.castable_spec (va_Nw.use (A := args) rfl (C.2.2.2.2.2.2.2.2.2.1 _ hq rfl))
  refine ⟨cell, g1, g2, ⟨kC, hkC⟩, fun comp h => ?_⟩
  cases h.symm.trans f2
  cases g3.symm.trans f1
  exact f3
/-- a reference stored -/
theorem pb_aast (C : pb_C w p s m meth c args cc nL own nm ret) {a n v : Nat} {g : Nat → Value} {i : Int} (hA : pb_A w H a 4 n g) (hv : pb_El w H v) (hi : 0 ≤ i ∧ i < n ∧ i ≤ 2147483647) (hz : zs ≤ a) (hdg : decode cc pc = .ok (.aastore, 1))
    (kk : ∀ H1 : Heap, pb_Up a H H1 → pb_A w H1 a 4 n (updV g i.toNat (.ref v)) → pb_V zs p l e R s m args below meth c H1 bc bs Q (F0 m (pc + 1) ls rest)) : pb_V zs p l e R s m args below meth c H bc bs Q (F0 m pc ls (.ref v :: .int (iZ i) :: .ref a :: rest)) := by
  obtain ⟨cellV, g1, g3, ⟨kC, hkC⟩, hasg⟩ := pb_any C hv
  obtain ⟨kA, comp, k1, k2, k3, -⟩ := (C.2.2.2.2.2.2.2.2.1.2 4 _ (pb_ty_at w.2.1 (by decide))).2
  obtain ⟨kE, hkE, -⟩ := Vm.findClass_spec k3
  intro locs cells slots a1 b1 d1
  refine W.aast C.1 C.2.1 hA (fun q h => by cases h) (fun h => by cases h) k1 k2 rfl hkE ⟨by rw [← iZ_0, iZ_lt (by omega) pb_r0]; omega, by rw [iZ_clamp (by omega)]; show _ < (arrV _ _ _).slots.size; rw [arrV_size]; omega⟩ g1 (fun q h => by rw [h] at g3; cases g3) hkC (hasg _ k3) rfl rfl hdg fun H' e1 e2 e3 => ?_
  rw [iZ_clamp (by omega), arrV_store] at e1
  refine kk H' ⟨e2, e3⟩ e1 _ _ _ (fun q hq => ?_) b1 d1
  rcases List.mem_append.mp hq with h | h
  · exact a1 q h
  · rw [List.mem_singleton.mp h]; exact hz
/-- null stored -/
theorem pb_aastN (C : pb_C w p s m meth c args cc nL own nm ret) {a n : Nat} {g : Nat → Value} {i : Int} (hA : pb_A w H a 4 n g) (hi : 0 ≤ i ∧ i < n ∧ i ≤ 2147483647) (hz : zs ≤ a) (hdg : decode cc pc = .ok (.aastore, 1))
    (kk : ∀ H1 : Heap, pb_Up a H H1 → pb_A w H1 a 4 n (updV g i.toNat .null) → pb_V zs p l e R s m args below meth c H1 bc bs Q (F0 m (pc + 1) ls rest)) : pb_V zs p l e R s m args below meth c H bc bs Q (F0 m pc ls (.null :: .int (iZ i) :: .ref a :: rest)) := by
  intro locs cells slots a1 b1 d1
  refine va_WaastN (C := "java/lang/Object") C.1 C.2.1 hA (pb_isA (t := 4) (by decide) C.2.2.2.2.2.2.2.2 rfl rfl) (fun h => by cases h) (pb_ix (arrV_size _ _ _) hi) rfl rfl hdg fun H' e1 e2 e3 => ?_
  rw [iZ_clamp (by omega), arrV_store] at e1
  refine kk H' ⟨e2, e3⟩ e1 _ _ _ (fun q hq => ?_) b1 d1
  rcases List.mem_append.mp hq with h | h
  · exact a1 q h
  · rw [List.mem_singleton.mp h]; exact hz
/-- a new array of objects -/
theorem pb_newq (C : pb_C w p s m meth c args cc nL own nm ret) {index : Nat} (hcl : Cond.classLink own index "java/lang/Object" ∈ lw_all) {n : Nat} (hn : n ≤ 1000000) {a : Nat} (ha : a = H.size) {bc' bs' : Nat} (hbc : 1 + bc' ≤ bc) (hbs : n + bs' ≤ bs) (hdg : decode cc pc = .ok (.anewarray index, 3))
    (kk : ∀ H1 : Heap, pb_Nx H H1 → pb_A w H1 a 4 n (fun _ => .null) → pb_V zs p l e R s m args below meth c H1 bc' bs' Q (F0 m (pc + 3) ls (.ref a :: rest))) : pb_V zs p l e R s m args below meth c H bc bs Q (F0 m pc ls (.int (iZ (n : Int)) :: rest)) := by
  subst ha
  have hcl1 : (iZ (n : Int)).toNatClampNeg = n := by rw [iZ_clamp (by omega)]; rfl
  intro locs cells slots a1 b1 d1
  refine W.anew C.1 C.2.1 C.2.2.2.1 (C.2.2.2.2.1 _ hcl) (va_AO.use C.2.2.2.2.2.2.2.2.2.2.2.1) rfl hdg rfl (by rw [← iZ_0, iZ_lt (by omega) pb_r0]; omega) (by rw [hcl1]; omega) (by omega) (by rw [hcl1]; omega) fun cA kA comp f1 f2 f3 f4 => ?_
  generalize hH1 : H.push ({ cls := cA, slots := Array.replicate (iZ (n : Int)).toNatClampNeg .null, vm := .none } : Cell) = H1
  have z1 : H1.size = H.size + 1 := by rw [← hH1, Array.size_push]
  have e1 : H1[H.size]? = some (arrV cA n (fun _ => .null)) := by rw [← hH1, Array.getElem?_push_size, ← arrV_new, hcl1]
  have o1 : ∀ q : Nat, q < H.size → H1[q]? = H[q]? := fun q hq => by rw [← hH1, Array.getElem?_push, if_neg (Nat.ne_of_lt hq)]
  have hcA : cA = w.2.1 4 := by
    have h2 := (C.2.2.2.2.2.2.2.2.1.2 4 _ (pb_ty_at w.2.1 (by decide))).2
    obtain ⟨kA', comp', k1, k2, k3, k4⟩ := h2
    exact (Option.some.inj (k4.symm.trans f1)).symm
  subst hcA
  exact kk H1 ⟨z1, o1⟩ e1 _ _ _ a1 (by omega) (by rw [hcl1]; omega)
/-- casts that go through -/
theorem pb_cast (C : pb_C w p s m meth c args cc nL own nm ret) {index a ci : Nat} {Cn : String} {T : u_T} {N : Nat} {fs : List Value} (hO : pb_R w H a ci fs) (hc : pb_cl[ci]? = some (Cn, T, N)) (hcl : Cond.classLink own index Cn ∈ lw_all) (hdg : decode cc pc = .ok (.checkcast index, 3))
    (kk : pb_V zs p l e R s m args below meth c H bc bs Q (F0 m (pc + 3) ls (.ref a :: rest))) : pb_V zs p l e R s m args below meth c H bc bs Q (F0 m pc ls (.ref a :: rest)) :=
  pb_lift (fun _ _ _ kk => va_castE C.1 C.2.1 C.2.2.2.1 (C.2.2.2.2.1 _ hcl) (pb_recv C hO hc) hdg kk) kk
theorem pb_castN (C : pb_C w p s m meth c args cc nL own nm ret) {index : Nat} (hdg : decode cc pc = .ok (.checkcast index, 3))
    (kk : pb_V zs p l e R s m args below meth c H bc bs Q (F0 m (pc + 3) ls (.null :: rest))) : pb_V zs p l e R s m args below meth c H bc bs Q (F0 m pc ls (.null :: rest)) :=
  pb_lift (fun _ _ _ kk => lv_castN C.1 C.2.1 hdg kk) kk
/-- a static field read -/
theorem pb_gets (C : pb_C w p s m meth c args cc nL own nm ret) {Cn n d ref : String} {v : Value} {index : Nat} {A : Nat → Prop} (hZ : va_Z Cn n d v A s H) (hq : Cond.fieldLink own index ref n d ∈ lw_all) (hsame : ∀ x, s.fieldFound? Cn n d = some x → s.fieldFound? ref n d = some x) (hdg : decode cc pc = .ok (.getstatic index, 3))
    (kk : pb_V zs p l e R s m args below meth c H bc bs Q (F0 m (pc + 3) ls (v :: rest))) : pb_V zs p l e R s m args below meth c H bc bs Q (F0 m pc ls rest) := by
  obtain ⟨cf, kf, fi, f, a, cell, h1, h2, h3, h4, h5, h6, h7, h8⟩ := hZ
  exact pb_lift (fun _ _ _ kk => W.gets C.1 C.2.1 C.2.2.2.1 (C.2.2.2.2.1 _ hq) (hsame _ h1) h2 h3 h4 h5 (fun e => by rw [e] at h6; cases h6) h7 rfl hdg kk) kk
theorem pb_getsN (C : pb_C w p s m meth c args cc nL own nm ret) {Cn n d ref host : String} {v : Value} {index : Nat} {A : Nat → Prop} (hZ : va_Z Cn n d v A s H) (hq : Cond.fieldLinkNest own index ref n d host ∈ lw_tbl) (hsame : ∀ x, s.fieldFound? Cn n d = some x → s.fieldFound? ref n d = some x) (hdg : decode cc pc = .ok (.getstatic index, 3))
    (kk : pb_V zs p l e R s m args below meth c H bc bs Q (F0 m (pc + 3) ls (v :: rest))) : pb_V zs p l e R s m args below meth c H bc bs Q (F0 m pc ls rest) := by
  obtain ⟨cf, kf, fi, f, a, cell, h1, h2, h3, h4, h5, h6, h7, h8⟩ := hZ
  exact pb_lift (fun _ _ _ kk => va_WgetsN C.1 C.2.1 C.2.2.2.1 (va_Nw.use rfl (C.2.2.2.2.2.2.2.2.2.1 _ hq rfl)) (hsame _ h1) h2 h3 h4 h5 (fun e => by rw [e] at h6; cases h6) h7 rfl hdg kk) kk
/-- class objects of an array of objects -/
theorem pb_ldcM (C : pb_C w p s m meth c args cc nL own nm ret) {index : Nat} (hcl : Cond.classLink own index "[Ljava/lang/Object;" ∈ lw_all) (hdg : decode cc pc = .ok (.ldc index, 2))
    (kk : pb_V zs p l e R s m args below meth c H bc bs Q (F0 m (pc + 2) ls (.ref (w.2.2.1 9) :: rest))) : pb_V zs p l e R s m args below meth c H bc bs Q (F0 m pc ls rest) :=
  pb_lift (fun _ _ _ kk => va_ldcM C.1 C.2.1 C.2.2.2.1 (C.2.2.2.2.1 _ hcl) C.2.2.2.2.2.2.2.2.2.2.2.2.2 hdg kk) kk
theorem pb_getC (C : pb_C w p s m meth c args cc nL own nm ret) {index a n : Nat} {g : Nat → Value} (hA : pb_B w H a 4 n g) (hq : Cond.methodLink own index ⟨"java/lang/Object", "getClass", "()Ljava/lang/Class;"⟩ ∈ lw_all) (hls : ls.size = nL) (hR : 1 ≤ R.frames ∧ (rest.map fun v => v.category).sum + 14 ≤ R.locals) (hdg : decode cc pc = .ok (.invokevirtual index, 3))
    (kk : pb_V zs p l e R s m args below meth c H bc bs Q (F0 m (pc + 3) ls (.ref (w.2.2.1 9) :: rest))) : pb_V zs p l e R s m args below meth c H bc bs Q (F0 m pc ls (.ref a :: rest)) := by
  obtain ⟨cell, h1, h2, h3, h4, h5, h6⟩ := hA
  obtain ⟨kA', comp', k1, k2, k3, k4⟩ := (C.2.2.2.2.2.2.2.2.1.2 4 _ (pb_ty_at w.2.1 (by decide))).2
  exact pb_lift (fun _ _ _ kk => va_getC C.1 C.2.1 (C.2.2.1.trans hls.symm) C.2.2.2.1 (C.2.2.2.2.1 _ hq) (va_Nw.use rfl (C.2.2.2.2.2.2.2.2.2.1 _ q2165 rfl)) (C.2.2.2.2.1 _ q2164) (C.2.2.2.2.1 _ q181) (C.2.2.2.2.1 _ q212) C.2.2.2.2.2.2.2.2.2.2.2.2.2 ⟨cell, h1, h3, by rw [h2]; exact k4⟩ hR.1 hR.2 hdg kk) kk
/-- elements copied -/
theorem pb_copy (C : pb_C w p s m meth c args cc nL own nm ret) {index a0 a n0 n1 : Nat} {f g : Nat → Value} {sp dp n : Int} (hA0 : pb_A w H a0 4 n0 f) (hA : pb_A w H a 4 n1 g) (hb : 0 ≤ sp ∧ 0 ≤ dp ∧ 0 ≤ n ∧ sp + n ≤ n0 ∧ dp + n ≤ n1 ∧ n0 ≤ 2147483647 ∧ n1 ≤ 2147483647) (hel : ∀ i : Nat, i < n.toNat → f (sp.toNat + i) = .null ∨ ∃ y, f (sp.toNat + i) = .ref y ∧ pb_El w H y) (hz : zs ≤ a)
    (hq : Cond.methodLink own index arraycopyName ∈ lw_all) (hls : ls.size = nL) (hR : 1 ≤ R.frames ∧ (rest.map fun v => v.category).sum + 40 ≤ R.locals) (hdg : decode cc pc = .ok (.invokestatic index, 3))
    (kk : ∀ H1 : Heap, pb_Up a H H1 → pb_A w H1 a 4 n1 (va_cpy f g sp.toNat dp.toNat n.toNat) → pb_V zs p l e R s m args below meth c H1 bc bs Q (F0 m (pc + 3) ls rest)) : pb_V zs p l e R s m args below meth c H bc bs Q (F0 m pc ls (.int (iZ n) :: .int (iZ dp) :: .ref a :: .int (iZ sp) :: .ref a0 :: rest)) := by
  obtain ⟨hb1, hb2, hb3, hb4, hb5, hb6, hb7⟩ := hb
  have hw : nativeFrameWords "java/lang/System" "arraycopy" 5 + 11 ≤ 40 := by decide
  intro locs cells slots a1 b1 d1 T hT X
  obtain ⟨-, k0, hk0, cm0, hkk0⟩ := (C.2.2.2.2.2.2.2.2.1.2 4 _ (pb_ty_at w.2.1 (by decide))).1 n0 f
  obtain ⟨kA, comp, r1, r2, r3, -⟩ := (C.2.2.2.2.2.2.2.2.1.2 4 _ (pb_ty_at w.2.1 (by decide))).2
  obtain ⟨vm', X', step⟩ := X.arraycopy C.1 C.2.2.2.1 (C.2.2.2.2.1 _ hq) (C.2.2.2.2.1 _ q224) (C.2.2.2.2.1 _ q223) (C.2.2.2.2.1 _ q59) (src := a0) (dst := a) (cs := arrV (w.2.1 4) n0 f) (cd := arrV (w.2.1 4) n1 g) (srcPos := iZ sp) (destPos := iZ dp) (n := iZ n) (by rw [hT]; exact hA0) (by rw [hT]; exact hA)
    (fun _ h => by cases h) (fun _ h => by cases h) (fun h => by cases h) (fun h => by cases h) hk0 hk0 hkk0 hkk0 rfl (by rw [← iZ_0, iZ_lt (by omega) pb_r0]; omega) (by rw [← iZ_0, iZ_lt (by omega) pb_r0]; omega) (by rw [← iZ_0, iZ_lt (by omega) pb_r0]; omega)
    (by rw [iZ_toInt (by omega), iZ_toInt (by omega)]; show ¬ _ > ((arrV _ _ _).slots.size : Int); rw [arrV_size]; omega)
    (by rw [iZ_toInt (by omega), iZ_toInt (by omega)]; show ¬ _ > ((arrV _ _ _).slots.size : Int); rw [arrV_size]; omega)
    (fun vm₁ hal i hi => by
      rw [iZ_clamp (by omega)] at hi
      have e : (arrV (w.2.1 4) n0 f).slots.getD ((iZ sp).toNatClampNeg + i) .null = f (sp.toNat + i) := by
        rw [iZ_clamp (by omega), Array.getD_eq_getD_getElem?, arrV_read _ _ (by omega)]
        rfl
      rw [e]
      rcases hel i hi with hy | ⟨y, hy, hel⟩
      · rw [hy]; exact ⟨rfl, trivial⟩
      · rw [hy]
        obtain ⟨cellV, g1, g2, ⟨kC, hkC⟩, hasg⟩ := pb_any C hel
        cases hk0.symm.trans r1
        cases hkk0.symm.trans r2
        obtain ⟨kE, hkE, -⟩ := Vm.findClass_spec r3
        obtain ⟨kC', hkC', -⟩ := hal.2.2 _ _ hkC
        obtain ⟨kE', hkE', -⟩ := hal.2.2 _ _ hkE
        refine ⟨rfl, cellV, (show T.heap[y]? = some cellV by rw [hT]; exact g1), (fun q h => by rw [h] at g2; cases g2), ⟨kC', hkC'⟩, ?_, ?_⟩
        · exact ⟨kE', hkE'⟩
        · show vm₁.assignable _ _ = true
          rw [hal.assignable]
          exact hasg _ r3)
    (g := F0 m pc ls (.int (iZ n) :: .int (iZ dp) :: .ref a :: .int (iZ sp) :: .ref a0 :: rest)) rfl (hls.trans C.2.2.1.symm) (rest := rest) rfl (by rw [C.2.1]; exact hdg) hR.1 (by show 2 * 0 + _ + _ ≤ _; omega)
  have e1 : copied (arrV (w.2.1 4) n0 f) (arrV (w.2.1 4) n1 g) (iZ sp) (iZ dp) (iZ n) = arrV (w.2.1 4) n1 (va_cpy f g sp.toNat dp.toNat n.toNat) := by
    show (arrV (w.2.1 4) n1 g).storeRun (iZ dp).toNatClampNeg ((arrV (w.2.1 4) n0 f).stretch (iZ sp).toNatClampNeg (iZ n).toNatClampNeg) = _
    rw [iZ_clamp (a := dp) (by omega), iZ_clamp (a := sp) (by omega), iZ_clamp (a := n) (by omega)]
    exact va_copied (fun z => z) _ _ f g (by omega)
  rw [e1] at X' step
  have hl : a < H.size := (Array.getElem?_eq_some_iff.mp hA).1
  have hheap : ((T.setVm vm').setCell a (arrV (w.2.1 4) n1 (va_cpy f g sp.toNat dp.toNat n.toNat))).heap = H.setIfInBounds a (arrV (w.2.1 4) n1 (va_cpy f g sp.toNat dp.toNat n.toNat)) := by rw [← hT]; rfl
  obtain ⟨t, a2, b2⟩ := kk _ (pb_pos hl) (show (H.setIfInBounds a _)[a]? = some _ by simp [Array.getElem?_setIfInBounds, hl]) _ _ _ (fun q hq => by
      rcases List.mem_append.mp hq with h | h
      · exact a1 q h
      · obtain ⟨z, -, hz2⟩ := List.mem_map.mp h
        rw [← hz2]; exact hz) b1 d1 _ hheap X'
  exact ⟨t, step t a2, b2⟩
/-- numbers of double width stored -/
theorem pb_last (C : pb_C w p s m meth c args cc nL own nm ret) {a n : Nat} {g : Nat → Value} {i : Int} {x : Int64} (hA : pb_A w H a 2 n g) (hi : 0 ≤ i ∧ i < n ∧ i ≤ 2147483647) (hz : zs ≤ a) (hdg : decode cc pc = .ok (.lastore, 1))
    (kk : ∀ H1 : Heap, pb_Up a H H1 → pb_A w H1 a 2 n (updV g i.toNat (.long x)) → pb_V zs p l e R s m args below meth c H1 bc bs Q (F0 m (pc + 1) ls rest)) : pb_V zs p l e R s m args below meth c H bc bs Q (F0 m pc ls (.long x :: .int (iZ i) :: .ref a :: rest)) := by
  intro locs cells slots a1 b1 d1
  refine W.last C.1 C.2.1 hA (pb_isA (t := 2) (by decide) C.2.2.2.2.2.2.2.2 rfl rfl) (fun e => nomatch e) (pb_ix (arrV_size _ _ _) hi) rfl rfl hdg fun H' e1 e2 e3 => ?_
  rw [iZ_clamp (by omega), arrV_store] at e1
  refine kk H' ⟨e2, e3⟩ e1 _ _ _ (fun q hq => ?_) b1 d1
  rcases List.mem_append.mp hq with h | h
  · exact a1 q h
  · rw [List.mem_singleton.mp h]; exact hz
end PBJ
section PBJ2
variable {zs : Nat} {p : Program} {l : Launch} {e : Env} {R : Room} {s : State} {m : MethodId} {args : Array Value} {below : List Frame} {meth : Method} {c : Code} {H : Heap} {bc bs : Nat} {Q : State → Prop}
variable {w : pb_W} {cc : ByteArray} {nL : Nat} {own nm : String} {ret : Option FieldType} {pc : Nat} {ls : Array Slot} {rest : List Value}
theorem pb_newqE (C : pb_C w p s m meth c args cc nL own nm ret) {index : Nat} (hcl : Cond.classLink own index "java/lang/Object" ∈ lw_all) {n : Nat} (hn : n ≤ 1000000) {bc' bs' : Nat} (hbc : 1 + bc' ≤ bc) (hbs : n + bs' ≤ bs) (hdg : decode cc pc = .ok (.anewarray index, 3))
    (kk : ∀ (a : Nat) (H1 : Heap), a = H.size → pb_Nx H H1 → pb_A w H1 a 4 n (fun _ => .null) → pb_V zs p l e R s m args below meth c H1 bc' bs' Q (F0 m (pc + 3) ls (.ref a :: rest))) : pb_V zs p l e R s m args below meth c H bc bs Q (F0 m pc ls (.int (iZ (n : Int)) :: rest)) :=
  pb_newq C hcl hn rfl hbc hbs hdg fun H1 h1 h2 => kk _ H1 rfl h1 h2
end PBJ2
