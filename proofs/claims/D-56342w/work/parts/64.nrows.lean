set_option maxRecDepth 100000
theorem iZ_ushr {a k : Nat} (ha : a < 2147483648) (hk : k < 32) : ((iZ (a : Int)).toUInt32 >>> ((iZ (k : Int)).toUInt32 &&& Int32.toUInt32 31)).toInt32 = iZ ((a >>> k : Nat) : Int) := by
  apply Int32.toBitVec_inj.mp
  apply BitVec.eq_of_toNat_eq
  have h1 : (iZ (a : Int)).toUInt32.toNat = a := by
    show (iZ (a : Int)).toBitVec.toNat = a
    rw [iZ_bv, BitVec.toNat_ofNat, Nat.mod_eq_of_lt (by omega)]
  have h2 : ((iZ (k : Int)).toUInt32 &&& Int32.toUInt32 31).toNat = k := by
    have h : ∀ i : Fin 32, ((iZ ((i.val : Nat) : Int)).toUInt32 &&& Int32.toUInt32 31).toNat = i.val := by decide +kernel
    exact h ⟨k, hk⟩
  show ((iZ (a : Int)).toUInt32 >>> ((iZ (k : Int)).toUInt32 &&& Int32.toUInt32 31)).toNat = _
  rw [UInt32.toNat_shiftRight, h1, h2, iZ_bv, BitVec.toNat_ofNat, Nat.mod_eq_of_lt hk, Nat.mod_eq_of_lt]
  have := Nat.shiftRight_le a k
  omega
section PBNR
variable {zs : Nat} {p : Program} {l : Launch} {e : Env} {R : Room} {s : State} {m : MethodId} {args : Array Value} {below : List Frame} {meth : Method} {c : Code} {H : Heap} {bc bs : Nat} {Q : State → Prop}
variable {w : pb_W} {cc : ByteArray} {nL : Nat} {own nm : String} {ret : Option FieldType} {pc : Nat} {ls : Array Slot} {rest : List Value}
theorem pb_iushr (C : pb_C w p s m meth c args cc nL own nm ret) {x y : Nat} (hdg : decode cc pc = .ok (.iushr, 1)) (hx : x < 2147483648) (hy : y < 32)
    (k : pb_V zs p l e R s m args below meth c H bc bs Q (F0 m (pc + 1) ls (.int (iZ ((x >>> y : Nat) : Int)) :: rest))) : pb_V zs p l e R s m args below meth c H bc bs Q (F0 m pc ls (.int (iZ ((y : Nat) : Int)) :: .int (iZ ((x : Nat) : Int)) :: rest)) :=
  pb_lift (fun _ _ _ k => lv_iushr C.1 C.2.1 hdg (iZ_ushr hx hy) k) k
/-- the cache of small Integers -/
theorem pb_tq (C : pb_C w p s m meth c args cc nL own nm ret) {t N : Nat} {f : Nat → Value} {A : Nat → Prop} {i : Int} {v : Value} (hT : va_T (.object "java/lang/Integer") t N f A s H) (hi : 0 ≤ i ∧ i < N ∧ i ≤ 2147483647) (hv : f i.toNat = v) (hdg : decode cc pc = .ok (.aaload, 1))
    (kk : pb_V zs p l e R s m args below meth c H bc bs Q (F0 m (pc + 1) ls (v :: rest))) : pb_V zs p l e R s m args below meth c H bc bs Q (F0 m pc ls (.int (iZ i) :: .ref t :: rest)) := by
  obtain ⟨cl9, h1, h2, h3, h4, h5, h6, h7⟩ := hT
  have hin' : ¬ (iZ i < 0 ∨ cl9.slots.size ≤ (iZ i).toNatClampNeg) := by
    rw [iZ_clamp (by omega), ← iZ_0, iZ_lt (by omega) pb_r0]
    omega
  exact pb_lift (fun _ _ _ kk => W.aald (v := v) (ty := .object "java/lang/Integer") C.1 C.2.1 h1 h2 rfl h3 hin' (by rw [iZ_clamp (by omega), h6 _ (by omega), hv]) rfl rfl hdg kk) kk
/-- an array cast to its own class -/
theorem pb_castB (C : pb_C w p s m meth c args cc nL own nm ret) {index a t n : Nat} {g : Nat → Value} {ad : String} (hB : pb_B w H a t n g) (had : s.vm.findClass ad = some (w.2.1 t)) (hcl : Cond.classLink own index ad ∈ lw_all) (hdg : decode cc pc = .ok (.checkcast index, 3))
    (kk : pb_V zs p l e R s m args below meth c H bc bs Q (F0 m (pc + 3) ls (.ref a :: rest))) : pb_V zs p l e R s m args below meth c H bc bs Q (F0 m pc ls (.ref a :: rest)) := by
  obtain ⟨cl9, h1, h2, h3, -⟩ := hB
  exact pb_lift (fun _ _ _ kk => va_castE C.1 C.2.1 C.2.2.2.1 (C.2.2.2.2.1 _ hcl) ⟨cl9, h1, h3, by rw [h2]; exact had⟩ hdg kk) kk
theorem pb_adI (C : pb_C w p s m meth c args cc nL own nm ret) : s.vm.findClass "[I" = some (w.2.1 0) := (C.2.2.2.2.2.2.2.2.1.2 0 _ (pb_ty_at w.2.1 (by decide))).2
theorem pb_adO (C : pb_C w p s m meth c args cc nL own nm ret) : s.vm.findClass "[LPolygonBoard$Operation;" = some (w.2.1 5) := by
  obtain ⟨_, _, _, _, _, h3⟩ := (C.2.2.2.2.2.2.2.2.1.2 5 _ (pb_ty_at w.2.1 (by decide))).2
  exact h3
/-- an array copied by clone() -/
theorem pb_clone (C : pb_C w p s m meth c args cc nL own nm ret) {index a t n : Nat} {g : Nat → Value} {ad : String} (ht : t < 6) (hB : pb_B w H a t n g) (had : s.vm.findClass ad = some (w.2.1 t)) (hf : ∀ j, j < n → fits (pb_aty t) (g j) = true)
    (hq1 : Cond.methodLink own index ⟨ad, "clone", "()Ljava/lang/Object;"⟩ ∈ lw_all) (hq2 : Cond.sameMethod ad "java/lang/Object" "clone" "()Ljava/lang/Object;" ∈ lw_all) (hq3 : Cond.selects ad ⟨ad, "clone", "()Ljava/lang/Object;"⟩ ⟨"java/lang/Object", "clone", "()Ljava/lang/Object;"⟩ ∈ lw_all) (hq4 : Cond.castable ad "java/lang/Cloneable" ∈ lw_tbl)
    (hls : ls.size = nL) (hR : 1 ≤ R.frames ∧ (rest.map fun v => v.category).sum + 14 ≤ R.locals) {bc' bs' : Nat} (hbc : 1 + bc' ≤ bc) (hbs : n + bs' ≤ bs) (hdg : decode cc pc = .ok (.invokevirtual index, 3))
    (kk : ∀ (x : Nat) (H1 : Heap), x = H.size → pb_Nx H H1 → pb_A w H1 x t n g → pb_V zs p l e R s m args below meth c H1 bc' bs' Q (F0 m (pc + 3) ls (.ref x :: rest))) : pb_V zs p l e R s m args below meth c H bc bs Q (F0 m pc ls (.ref a :: rest)) := by
  obtain ⟨cl9, h1, h2, h3, h4, h5, h6⟩ := hB
  obtain ⟨c0, t0, f1, f2, f3⟩ := Cond.castable_spec (va_Nw.use (A := args) rfl (C.2.2.2.2.2.2.2.2.2.1 _ hq4 rfl))
  cases had.symm.trans f1
  obtain ⟨-, k0, hk0, cm0, hkk0⟩ := (C.2.2.2.2.2.2.2.2.1.2 t _ (pb_ty_at w.2.1 ht)).1 n g
  have hkc : s.vm.classes[cl9.cls]? = some k0 := by rw [h2]; exact hk0
  have hsl : cl9.slots = (arrV (w.2.1 t) n g).slots := by
    apply Array.ext
    · rw [h5, arrV_size]
    · intro i hi1 hi2
      have e1 := h6 i (by omega)
      have e2 := arrV_read (w.2.1 t) g (show i < n by omega)
      rw [Array.getElem?_eq_getElem hi1] at e1
      rw [Array.getElem?_eq_getElem hi2] at e2
      exact (Option.some.inj e1).trans (Option.some.inj e2).symm
  intro locs cells slots a1 b1 d1 T hT X
  obtain ⟨vm', X', st⟩ := X.cloneArray C.1 C.2.2.2.1 (C.2.2.2.2.1 _ hq1) (C.2.2.2.2.1 _ hq2) (C.2.2.2.2.1 _ q852) (C.2.2.2.2.1 _ q853) (C.2.2.2.2.1 _ hq3) (a := a) (cell := cl9) (cC := t0) (by rw [hT]; exact h1) (fun k hk => by rw [hk] at h3; cases h3) h4 (by rw [h2]; exact had) f2 (by rw [h2]; exact f3)
    (fun i v hv => by
      have hin : i < n := by rw [← h5]; exact (Array.getElem?_eq_some_iff.mp hv).1
      have e1 := h6 i hin
      have e2 : v = g i := Option.some.inj (hv.symm.trans e1)
      have hfs : T.fitsSlot = s.fitsSlot := (show T.fitsSlot = (s.setVm T.vm).fitsSlot from rfl).trans (State.fitsSlot_setVm X.warmed.alike)
      rw [hfs, e2]
      have h9 := hf i hin
      simp [State.fitsSlot, State.slotType?, hkc, hkk0, h9])
    (g := F0 m pc ls (.ref a :: rest)) rfl (hls.trans C.2.2.1.symm) (rest := rest) rfl (by rw [C.2.1]; exact hdg) hR.1 (by show 2 * 0 + _ + _ ≤ _; omega) (by omega) (by rw [h5]; omega) (Vm.clonesLoader_of_array hkc hkk0)
  generalize hH1 : H.push ({ cls := cl9.cls, slots := cl9.slots } : Cell) = H1
  have z1 : H1.size = H.size + 1 := by rw [← hH1, Array.size_push]
  have e1 : H1[H.size]? = some (arrV (w.2.1 t) n g) := by
    rw [← hH1, Array.getElem?_push_size, hsl, h2]; rfl
  have o1 : ∀ q : Nat, q < H.size → H1[q]? = H[q]? := fun q hq => by rw [← hH1, Array.getElem?_push, if_neg (Nat.ne_of_lt hq)]
  obtain ⟨t9, a2, b2⟩ := kk H.size H1 rfl ⟨z1, o1⟩ e1 locs (cells + 1) (slots + cl9.slots.size) a1 (by omega) (by rw [h5]; omega) _ (by rw [← hH1, ← hT]; rfl) X'
  refine ⟨t9, st t9 ?_, b2⟩
  rw [hT]
  exact a2
end PBNR
