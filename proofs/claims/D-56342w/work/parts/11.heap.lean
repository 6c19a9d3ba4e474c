set_option maxRecDepth 100000
section PBH
variable {zs : Nat} {p : Program} {l : Launch} {e : Env} {R : Room} {s : State} {m : MethodId} {args : Array Value} {below : List Frame} {meth : Method} {c : Code} {H : Heap} {bc bs : Nat} {Q : State → Prop}
variable {w : pb_W} {cc : ByteArray} {nL : Nat} {own nm : String} {ret : Option FieldType} {pc : Nat} {ls : Array Slot} {rest : List Value}
theorem pb_pos {H : Heap} {a : Nat} {x : Cell} (h : a < H.size) : pb_Up a H (H.setIfInBounds a x) := ⟨by simp, fun q hq => by simp [Array.getElem?_setIfInBounds, Ne.symm hq]⟩
/-- a field read -/
theorem pb_get (C : pb_C w p s m meth c args cc nL own nm ret) {Cn ref : String} {T : u_T} {N ci index a : Nat} {fs : List Value} (hin : ∀ q ∈ u_ws Cn T N, q ∈ lw_all) (hO : pb_R w H a ci fs) (hc : pb_cl[ci]? = some (Cn, T, N)) (k : Nat) (hk : k < N) (hq : Cond.fieldLink own index ref (T k).2.1 (T k).2.2.1 ∈ lw_all) (hsame : ∀ x, s.fieldFound? (T k).1 (T k).2.1 (T k).2.2.1 = some x → s.fieldFound? ref (T k).2.1 (T k).2.2.1 = some x) {v : Value} (hv : fs[k]? = some v) (hdg : decode cc pc = .ok (.getfield index, 3))
    (kk : pb_V zs p l e R s m args below meth c H bc bs Q (F0 m (pc + 3) ls (v :: rest))) : pb_V zs p l e R s m args below meth c H bc bs Q (F0 m pc ls (.ref a :: rest)) := by
  obtain ⟨hx, hb, -, hown, hts, -, -, -, hK⟩ := C
  obtain ⟨r, cell, h1, q1, q2, q3, q4, q5⟩ := hO
  have hr : r = (Cn, T, N) := Option.some.inj (h1.symm.trans hc)
  subst hr
  obtain ⟨hS, hfc, kC, hkC, hkind⟩ := hK.1.1 ci _ hc
  obtain ⟨cf, kf, fi, f, hi, hsl⟩ := hS k hk
  refine pb_lift (fun locs cells slots kk => W.getf hx hb hown (hts _ hq) (hsame _ hi) (u_facts hfc hkC (u_lays hts hin hk) hi).1 q1 q4 (v := v) ?_ rfl rfl hdg kk) kk
  rw [hsl, q5 k hk]
  simp [vp_V, hv]
/-- a nest mate's field -/
theorem pb_getN (C : pb_C w p s m meth c args cc nL own nm ret) {Cn ref host : String} {T : u_T} {N ci index a : Nat} {fs : List Value} (hin : ∀ q ∈ u_ws Cn T N, q ∈ lw_all) (hO : pb_R w H a ci fs) (hc : pb_cl[ci]? = some (Cn, T, N)) (k : Nat) (hk : k < N) (hq : Cond.fieldLinkNest own index ref (T k).2.1 (T k).2.2.1 host ∈ lw_tbl) (hsame : ∀ x, s.fieldFound? (T k).1 (T k).2.1 (T k).2.2.1 = some x → s.fieldFound? ref (T k).2.1 (T k).2.2.1 = some x) {v : Value} (hv : fs[k]? = some v) (hdg : decode cc pc = .ok (.getfield index, 3))
    (kk : pb_V zs p l e R s m args below meth c H bc bs Q (F0 m (pc + 3) ls (v :: rest))) : pb_V zs p l e R s m args below meth c H bc bs Q (F0 m pc ls (.ref a :: rest)) := by
  obtain ⟨hx, hb, -, hown, hts, -, -, -, hK⟩ := C
  obtain ⟨r, cell, h1, q1, q2, q3, q4, q5⟩ := hO
  have hr : r = (Cn, T, N) := Option.some.inj (h1.symm.trans hc)
  subst hr
  obtain ⟨hS, hfc, kC, hkC, hkind⟩ := hK.1.1 ci _ hc
  obtain ⟨cf, kf, fi, f, hi, hsl⟩ := hS k hk
  refine pb_lift (fun locs cells slots kk => va_Wgetf hx hb hown (va_Nw.use rfl (hK.2.1 _ hq rfl)) (hsame _ hi) (u_facts hfc hkC (u_lays hts hin hk) hi).1 q1 q4 (v := v) ?_ rfl rfl hdg kk) kk
  rw [hsl, q5 k hk]
  simp [vp_V, hv]
/-- a field written -/
theorem pb_put (C : pb_C w p s m meth c args cc nL own nm ret) {Cn ref : String} {T : u_T} {N ci index a : Nat} {fs : List Value} (hin : ∀ q ∈ u_ws Cn T N, q ∈ lw_all) (ty0 : Nat → FieldType) (hty : ∀ k, k < N → parseFieldDescriptor (T k).2.2.1 = some (ty0 k)) (hnm : ∀ a, a < N → ∀ b, b < N → a ≠ b → (T a).2.1 ≠ (T b).2.1) (hO : pb_O w H a ci fs) (hc : pb_cl[ci]? = some (Cn, T, N)) (k : Nat) (hk : k < N) (hq : Cond.fieldLink own index ref (T k).2.1 (T k).2.2.1 ∈ lw_all) (hsame : ∀ x, s.fieldFound? (T k).1 (T k).2.1 (T k).2.2.1 = some x → s.fieldFound? ref (T k).2.1 (T k).2.2.1 = some x) (hfin : (T k).2.2.2 = false) {v : Value} (hn : narrow (ty0 k) v = v) (hfit : fits (ty0 k) v = true) (hl : k < fs.length) (hz : zs ≤ a) (hdg : decode cc pc = .ok (.putfield index, 3))
    (kk : ∀ H1 : Heap, pb_Up a H H1 → pb_O w H1 a ci (fs.set k v) → pb_V zs p l e R s m args below meth c H1 bc bs Q (F0 m (pc + 3) ls rest)) : pb_V zs p l e R s m args below meth c H bc bs Q (F0 m pc ls (v :: .ref a :: rest)) := by
  obtain ⟨hx, hb, -, hown, hts, -, -, -, hK⟩ := C
  have hap := va_apart (own := own) hts hin ty0 hty hnm hK.1 hc
  obtain ⟨r, h1, cell, q1, q2, q3, q4⟩ := hO
  have hr : r = (Cn, T, N) := Option.some.inj (h1.symm.trans hc)
  subst hr
  obtain ⟨hS, hfc, kC, hkC, hkind⟩ := hK.1.1 ci _ hc
  obtain ⟨cf, kf, fi, f, hi, hsl⟩ := hS k hk
  have hlay := hts _ (hin _ (u_in_lay hk))
  unfold u_lay at hlay
  rw [if_neg (by rw [hfin]; decide)] at hlay
  have hst := (u_facts hfc hkC (u_lays hts hin hk) hi).1
  have h6 := u_store hfc hkC hkind hlay hi (hty k hk) hn hfit
  intro locs cells slots a1 b1 d1
  refine W.putK hx hb (f := f) ⟨hown, hts _ hq, ⟨_, _, _, hsame _ hi⟩, hst⟩ (by rw [q2]; exact h6) q1 q3 (by rw [hsl]; exact k2_hasslot (q4 k hk)) rfl rfl hdg fun H' e1 e2 e3 => ?_
  rw [hsl] at e1 ⊢
  refine kk H' ⟨e2, e3⟩ ⟨_, hc, t_OB.to (V := updV (vp_V fs) k v) ⟨_, e1, q2, q3, t_set q4 hap hk v⟩ (fun j _ => vp_updV_set hl v j)⟩ _ _ _ (fun q hq => ?_) b1 d1
  rcases List.mem_append.mp hq with h | h
  · exact a1 q h
  · rw [List.mem_singleton.mp h]; exact hz
theorem pb_putN (C : pb_C w p s m meth c args cc nL own nm ret) {Cn ref host : String} {T : u_T} {N ci index a : Nat} {fs : List Value} (hin : ∀ q ∈ u_ws Cn T N, q ∈ lw_all) (ty0 : Nat → FieldType) (hty : ∀ k, k < N → parseFieldDescriptor (T k).2.2.1 = some (ty0 k)) (hnm : ∀ a, a < N → ∀ b, b < N → a ≠ b → (T a).2.1 ≠ (T b).2.1) (hO : pb_O w H a ci fs) (hc : pb_cl[ci]? = some (Cn, T, N)) (k : Nat) (hk : k < N) (hq : Cond.fieldLinkNest own index ref (T k).2.1 (T k).2.2.1 host ∈ lw_tbl) (hsame : ∀ x, s.fieldFound? (T k).1 (T k).2.1 (T k).2.2.1 = some x → s.fieldFound? ref (T k).2.1 (T k).2.2.1 = some x) (hfin : (T k).2.2.2 = false) {v : Value} (hn : narrow (ty0 k) v = v) (hfit : fits (ty0 k) v = true) (hl : k < fs.length) (hz : zs ≤ a) (hdg : decode cc pc = .ok (.putfield index, 3))
    (kk : ∀ H1 : Heap, pb_Up a H H1 → pb_O w H1 a ci (fs.set k v) → pb_V zs p l e R s m args below meth c H1 bc bs Q (F0 m (pc + 3) ls rest)) : pb_V zs p l e R s m args below meth c H bc bs Q (F0 m pc ls (v :: .ref a :: rest)) := by
  obtain ⟨hx, hb, -, hown, hts, -, -, -, hK⟩ := C
  have hap := va_apart (own := own) hts hin ty0 hty hnm hK.1 hc
  obtain ⟨r, h1, cell, q1, q2, q3, q4⟩ := hO
  have hr : r = (Cn, T, N) := Option.some.inj (h1.symm.trans hc)
  subst hr
  obtain ⟨hS, hfc, kC, hkC, hkind⟩ := hK.1.1 ci _ hc
  obtain ⟨cf, kf, fi, f, hi, hsl⟩ := hS k hk
  have hlay := hts _ (hin _ (u_in_lay hk))
  unfold u_lay at hlay
  rw [if_neg (by rw [hfin]; decide)] at hlay
  have hst := (u_facts hfc hkC (u_lays hts hin hk) hi).1
  have h6 := u_store hfc hkC hkind hlay hi (hty k hk) hn hfit
  intro locs cells slots a1 b1 d1
  refine va_WputK hx hb (f := f) hown (va_Nw.use rfl (hK.2.1 _ hq rfl)) (hsame _ hi) hst (by rw [q2]; exact h6) q1 q3 (by rw [hsl]; exact k2_hasslot (q4 k hk)) rfl rfl hdg fun H' e1 e2 e3 => ?_
  rw [hsl] at e1 ⊢
  refine kk H' ⟨e2, e3⟩ ⟨_, hc, t_OB.to (V := updV (vp_V fs) k v) ⟨_, e1, q2, q3, t_set q4 hap hk v⟩ (fun j _ => vp_updV_set hl v j)⟩ _ _ _ (fun q hq => ?_) b1 d1
  rcases List.mem_append.mp hq with h | h
  · exact a1 q h
  · rw [List.mem_singleton.mp h]; exact hz
/-- a final field, in its constructor -/
theorem pb_putF (C : pb_C w p s m meth c args cc nL own nm ret) {Cn ref : String} {T : u_T} {N ci index a : Nat} {fs : List Value} (hin : ∀ q ∈ u_ws Cn T N, q ∈ lw_all) (ty0 : Nat → FieldType) (hty : ∀ k, k < N → parseFieldDescriptor (T k).2.2.1 = some (ty0 k)) (hnm : ∀ a, a < N → ∀ b, b < N → a ≠ b → (T a).2.1 ≠ (T b).2.1) (hO : pb_O w H a ci fs) (hc : pb_cl[ci]? = some (Cn, T, N)) (k : Nat) (hk : k < N) (hq : Cond.fieldLink own index ref (T k).2.1 (T k).2.2.1 ∈ lw_all) (hsame : ∀ x, s.fieldFound? (T k).1 (T k).2.1 (T k).2.2.1 = some x → s.fieldFound? ref (T k).2.1 (T k).2.2.1 = some x) (hfin : (T k).2.2.2 = true) (hin2 : nm = "<init>") (hdecl : (T k).1 = own) {v : Value} (hn : narrow (ty0 k) v = v) (hfit : fits (ty0 k) v = true) (hl : k < fs.length) (hz : zs ≤ a) (hdg : decode cc pc = .ok (.putfield index, 3))
    (kk : ∀ H1 : Heap, pb_Up a H H1 → pb_O w H1 a ci (fs.set k v) → pb_V zs p l e R s m args below meth c H1 bc bs Q (F0 m (pc + 3) ls rest)) : pb_V zs p l e R s m args below meth c H bc bs Q (F0 m pc ls (v :: .ref a :: rest)) := by
  obtain ⟨hx, hb, -, hown, hts, -, -, hnmm, hK⟩ := C
  have hap := va_apart (own := own) hts hin ty0 hty hnm hK.1 hc
  obtain ⟨r, h1, cell, q1, q2, q3, q4⟩ := hO
  have hr : r = (Cn, T, N) := Option.some.inj (h1.symm.trans hc)
  subst hr
  obtain ⟨hS, hfc, kC, hkC, hkind⟩ := hK.1.1 ci _ hc
  obtain ⟨cf, kf, fi, f, hi, hsl⟩ := hS k hk
  have hlay := hts _ (hin _ (u_in_lay hk))
  unfold u_lay at hlay
  rw [if_pos hfin] at hlay
  have hst := (u_facts hfc hkC (u_lays hts hin hk) hi).1
  have h6 := u_fits hfc hkC hkind (Or.inr hlay) hi (hty k hk) hn hfit
  have hcf : m.cls = cf := by
    obtain ⟨_, _, c', _, _, _, -, -, hf', -, hown2, -⟩ := Cond.laid_spec (final := true) hlay
    have e1 : c' = cf := by have := hi.symm.trans hf'; simp at this; exact this.1.symm
    rw [hdecl] at hown2
    rw [← e1]; exact Option.some.inj (hown.symm.trans hown2)
  intro locs cells slots a1 b1 d1
  refine W.putFinK hx hb hown (hts _ hq) (hsame _ hi) hst hcf (hnmm.trans hin2) (by rw [q2]; exact h6) q1 q3 (by rw [hsl]; exact k2_hasslot (q4 k hk)) rfl rfl hdg fun H' e1 e2 e3 => ?_
  rw [hsl] at e1 ⊢
  refine kk H' ⟨e2, e3⟩ ⟨_, hc, t_OB.to (V := updV (vp_V fs) k v) ⟨_, e1, q2, q3, t_set q4 hap hk v⟩ (fun j _ => vp_updV_set hl v j)⟩ _ _ _ (fun q hq => ?_) b1 d1
  rcases List.mem_append.mp hq with h | h
  · exact a1 q h
  · rw [List.mem_singleton.mp h]; exact hz
/-- a new object -/
theorem pb_new (C : pb_C w p s m meth c args cc nL own nm ret) {Cn : String} {T : u_T} {N ci index : Nat} (hin : ∀ q ∈ u_ws Cn T N, q ∈ lw_all) (ty : Nat → FieldType) (hty : ∀ k, k < N → parseFieldDescriptor (T k).2.2.1 = some (ty k)) (hc : pb_cl[ci]? = some (Cn, T, N)) (hcl : Cond.classLink own index Cn ∈ lw_all) (hinst : Cond.instantiable Cn N ∈ lw_all) (hini : Cond.initialized Cn ∈ lw_all) {fs : List Value} (hfs : ∀ j, j < N → defaultValue (ty j) = vp_V fs j) {bc' bs' : Nat} (hbc : 1 + bc' ≤ bc) (hbs : N + bs' ≤ bs) (hdg : decode cc pc = .ok (.new index, 3))
    (kk : ∀ H1 : Heap, pb_Nx H H1 → pb_O w H1 H.size ci fs → pb_V zs p l e R s m args below meth c H1 bc' bs' Q (F0 m (pc + 3) ls (.ref H.size :: rest))) : pb_V zs p l e R s m args below meth c H bc bs Q (F0 m pc ls rest) := by
  obtain ⟨hx, hb, -, hown, hts, -, -, -, hK⟩ := C
  have hKn := hK.1.1 ci _ hc
  intro locs cells slots a1 b1 d1
  refine W.newcK hx hb hown (hts _ hcl) (hts _ hinst) (hts _ hini) rfl hdg (by omega) (by omega) hKn.2.1 rfl fun H1 kC hkC e1 z1 o1 => ?_
  exact kk H1 ⟨z1, o1⟩ ⟨_, hc, (u_born ty hts hin hKn hkC e1 hty).to hfs⟩ _ _ _ a1 (by omega) (by omega)
/-- a new array of numbers -/
theorem pb_newa (C : pb_C w p s m meth c args cc nL own nm ret) (t : Nat) (ht : t < 4) {atype : ArrayType} (hty : newarray.typeOf atype = pb_aty t) (hq : Cond.arrayClass (newarray.typeOf atype) ∈ lw_all) {n : Nat} (hn : n ≤ 1000000) {d : Value} (hd : defaultValue (pb_aty t) = d) {bc' bs' : Nat} (hbc : 1 + bc' ≤ bc) (hbs : n + bs' ≤ bs) (hdg : decode cc pc = .ok (.newarray atype, 2))
    (kk : ∀ H1 : Heap, pb_Nx H H1 → pb_A w H1 H.size t n (fun _ => d) → pb_V zs p l e R s m args below meth c H1 bc' bs' Q (F0 m (pc + 2) ls (.ref H.size :: rest))) : pb_V zs p l e R s m args below meth c H bc bs Q (F0 m pc ls (.int (iZ (n : Int)) :: rest)) := by
  obtain ⟨hx, hb, -, hown, hts, -, -, -, hK⟩ := C
  intro locs cells slots a1 b1 d1
  have hcb : componentBytes (newarray.typeOf atype) ≤ 8 := by cases atype <;> decide
  have hmul : n * componentBytes (newarray.typeOf atype) ≤ 536870912 := Nat.le_trans (Nat.mul_le_mul hn hcb) (by decide)
  refine va_newaK hx hb (hts _ hq) rfl hdg rfl (by rw [← iZ_0, iZ_lt (by omega) pb_r0]; omega) (iZ_clamp (by omega)) hmul (by omega) (by simp only [Int.toNat_natCast]; omega) rfl fun H1 cA e1 z1 o1 hAr hNm => ?_
  have hcA : cA = w.2.1 t := by
    have h2 := (hK.1.2 t _ (pb_ty_at w.2.1 (by omega))).2
    have h3 : s.vm.findClass ("[" ++ (pb_aty t).toString) = some (w.2.1 t) := by
      match t, ht, h2 with
      | 0, _, h2 => exact h2
      | 1, _, h2 => exact h2
      | 2, _, h2 => exact h2
      | 3, _, h2 => exact h2
    rw [hty, h3] at hNm
    exact (Option.some.inj hNm).symm
  subst hcA
  rw [hty, hd] at e1
  exact kk H1 ⟨z1, o1⟩ e1 _ _ _ a1 (by omega) (by simp only [Int.toNat_natCast]; omega)
theorem pb_isA {t : Nat} (ht : t < 6) (hK : pb_K w s) {cell : Cell} (h : cell.cls = w.2.1 t) (h2 : cell.vm.isStatics = false) : s.isArrayOf cell (pb_aty t) := by
  obtain ⟨h3, k, h4, h5⟩ := (hK.1.2 t _ (pb_ty_at w.2.1 ht)).1 0 (fun _ => .null)
  exact ⟨fun z hz => (by rw [hz] at h2; cases h2), k, (by rw [h]; exact h4), h5⟩
theorem pb_ix {cell : Cell} {n : Nat} {i : Int} (hs : cell.slots.size = n) (hi : 0 ≤ i ∧ i < n ∧ i ≤ 2147483647) : ¬ (iZ i < 0 ∨ cell.slots.size ≤ (iZ i).toNatClampNeg) := by
  rw [iZ_clamp (by omega), ← iZ_0, iZ_lt (by omega) pb_r0]
  omega
/-- array reads -/
theorem pb_iald (C : pb_C w p s m meth c args cc nL own nm ret) {a n : Nat} {g : Nat → Value} {i : Int} {v : Value} (hA : pb_B w H a 0 n g) (hi : 0 ≤ i ∧ i < n ∧ i ≤ 2147483647) (hv : g i.toNat = v) (hdg : decode cc pc = .ok (.iaload, 1))
    (kk : pb_V zs p l e R s m args below meth c H bc bs Q (F0 m (pc + 1) ls (v :: rest))) : pb_V zs p l e R s m args below meth c H bc bs Q (F0 m pc ls (.int (iZ i) :: .ref a :: rest)) := by
  obtain ⟨cell, h1, h2, h3, h4, h5, h6⟩ := hA
  refine pb_lift (fun locs cells slots kk => W.iald C.1 C.2.1 h1 (pb_isA (t := 0) (by decide) C.2.2.2.2.2.2.2.2 h2 h3) h4 (pb_ix h5 hi) (v := v) ?_ rfl rfl hdg kk) kk
  rw [iZ_clamp (by omega), h6 _ (by omega), hv]
theorem pb_zald (C : pb_C w p s m meth c args cc nL own nm ret) {a n : Nat} {g : Nat → Value} {i : Int} {v : Value} (hA : pb_B w H a 1 n g) (hi : 0 ≤ i ∧ i < n ∧ i ≤ 2147483647) (hv : g i.toNat = v) (hdg : decode cc pc = .ok (.baload, 1))
    (kk : pb_V zs p l e R s m args below meth c H bc bs Q (F0 m (pc + 1) ls (v :: rest))) : pb_V zs p l e R s m args below meth c H bc bs Q (F0 m pc ls (.int (iZ i) :: .ref a :: rest)) := by
  obtain ⟨cell, h1, h2, h3, h4, h5, h6⟩ := hA
  refine pb_lift (fun locs cells slots kk => W.zald C.1 C.2.1 h1 (pb_isA (t := 1) (by decide) C.2.2.2.2.2.2.2.2 h2 h3) h4 (pb_ix h5 hi) (v := v) ?_ rfl rfl hdg kk) kk
  rw [iZ_clamp (by omega), h6 _ (by omega), hv]
theorem pb_aald (C : pb_C w p s m meth c args cc nL own nm ret) {a n t : Nat} (ht : t = 4 ∨ t = 5) {g : Nat → Value} {i : Int} {v : Value} (hA : pb_B w H a t n g) (hi : 0 ≤ i ∧ i < n ∧ i ≤ 2147483647) (hv : g i.toNat = v) (hdg : decode cc pc = .ok (.aaload, 1))
    (kk : pb_V zs p l e R s m args below meth c H bc bs Q (F0 m (pc + 1) ls (v :: rest))) : pb_V zs p l e R s m args below meth c H bc bs Q (F0 m pc ls (.int (iZ i) :: .ref a :: rest)) := by
  obtain ⟨cell, h1, h2, h3, h4, h5, h6⟩ := hA
  refine pb_lift (fun locs cells slots kk => W.aald C.1 C.2.1 h1 (pb_isA (t := t) (by omega) C.2.2.2.2.2.2.2.2 h2 h3) (by rcases ht with e | e <;> rw [e] <;> rfl) h4 (pb_ix h5 hi) (v := v) ?_ rfl rfl hdg kk) kk
  rw [iZ_clamp (by omega), h6 _ (by omega), hv]
theorem pb_alen (C : pb_C w p s m meth c args cc nL own nm ret) {a n t : Nat} (ht : t < 6) {g : Nat → Value} (hA : pb_B w H a t n g) (hdg : decode cc pc = .ok (.arraylength, 1))
    (kk : pb_V zs p l e R s m args below meth c H bc bs Q (F0 m (pc + 1) ls (.int (iZ (n : Int)) :: rest))) : pb_V zs p l e R s m args below meth c H bc bs Q (F0 m pc ls (.ref a :: rest)) := by
  obtain ⟨cell, h1, h2, h3, h4, h5, h6⟩ := hA
  exact pb_lift (fun locs cells slots kk => W.alen C.1 C.2.1 h1 (pb_isA (t := t) ht C.2.2.2.2.2.2.2.2 h2 h3) (n := iZ (n : Int)) (by rw [h5, iZ_nat]; rfl) rfl rfl hdg kk) kk
/-- array writes -/
theorem pb_iast (C : pb_C w p s m meth c args cc nL own nm ret) {a n : Nat} {g : Nat → Value} {i : Int} {x : Int32} (hA : pb_A w H a 0 n g) (hi : 0 ≤ i ∧ i < n ∧ i ≤ 2147483647) (hz : zs ≤ a) (hdg : decode cc pc = .ok (.iastore, 1))
    (kk : ∀ H1 : Heap, pb_Up a H H1 → pb_A w H1 a 0 n (updV g i.toNat (.int x)) → pb_V zs p l e R s m args below meth c H1 bc bs Q (F0 m (pc + 1) ls rest)) : pb_V zs p l e R s m args below meth c H bc bs Q (F0 m pc ls (.int x :: .int (iZ i) :: .ref a :: rest)) := by
  intro locs cells slots a1 b1 d1
  refine W.iast C.1 C.2.1 hA (pb_isA (t := 0) (by decide) C.2.2.2.2.2.2.2.2 rfl rfl) (fun e => nomatch e) (pb_ix (arrV_size _ _ _) hi) rfl rfl hdg fun H' e1 e2 e3 => ?_
  rw [iZ_clamp (by omega), arrV_store] at e1
  refine kk H' ⟨e2, e3⟩ e1 _ _ _ (fun q hq => ?_) b1 d1
  rcases List.mem_append.mp hq with h | h
  · exact a1 q h
  · rw [List.mem_singleton.mp h]; exact hz
theorem pb_zast (C : pb_C w p s m meth c args cc nL own nm ret) {a n : Nat} {g : Nat → Value} {i : Int} {x : Int32} (hx : narrow .boolean (.int x) = .int x) (hA : pb_A w H a 1 n g) (hi : 0 ≤ i ∧ i < n ∧ i ≤ 2147483647) (hz : zs ≤ a) (hdg : decode cc pc = .ok (.bastore, 1))
    (kk : ∀ H1 : Heap, pb_Up a H H1 → pb_A w H1 a 1 n (updV g i.toNat (.int x)) → pb_V zs p l e R s m args below meth c H1 bc bs Q (F0 m (pc + 1) ls rest)) : pb_V zs p l e R s m args below meth c H bc bs Q (F0 m pc ls (.int x :: .int (iZ i) :: .ref a :: rest)) := by
  intro locs cells slots a1 b1 d1
  refine W.zast C.1 C.2.1 hA (pb_isA (t := 1) (by decide) C.2.2.2.2.2.2.2.2 rfl rfl) (fun e => nomatch e) (pb_ix (arrV_size _ _ _) hi) rfl rfl hdg fun H' e1 e2 e3 => ?_
  rw [iZ_clamp (by omega), hx, arrV_store] at e1
  refine kk H' ⟨e2, e3⟩ e1 _ _ _ (fun q hq => ?_) b1 d1
  rcases List.mem_append.mp hq with h | h
  · exact a1 q h
  · rw [List.mem_singleton.mp h]; exact hz
/-- Object's constructor -/
theorem pb_objInit (C : pb_C w p s m meth c args cc nL own nm ret) {a idx : Nat} (hlink : Cond.methodLink own idx Lib.objectInit ∈ lw_all) (hinst : Cond.instanceMethod Lib.objectInit ∈ lw_all) (hcode : Cond.code Lib.objectInit ⟨#[0xb1]⟩ 1 none ∈ lw_all) (hls : ls.size = nL) (hR : 1 ≤ R.frames ∧ (rest.map fun v => v.category).sum + 12 ≤ R.locals) (hdg : decode cc pc = .ok (.invokespecial idx, 3))
    (k : pb_V zs p l e R s m args below meth c H bc bs Q (F0 m (pc + 3) ls rest)) : pb_V zs p l e R s m args below meth c H bc bs Q (F0 m pc ls (.ref a :: rest)) :=
  pb_lift (fun _ _ _ k => W.objInit C.1 C.2.1 C.2.2.2.1 (C.2.2.2.2.1 _ hlink) (C.2.2.2.2.1 _ hinst) (C.2.2.2.2.1 _ hcode) rfl (hls.trans C.2.2.1.symm) rfl hdg hR.1 (by show 2 * 0 + _ + 12 ≤ _; omega) k) k
end PBH
