set_option maxRecDepth 100000
def chZ (x : Int) : Int := (((iZ x).toUInt32.toNat % 65536 : Nat) : Int)
theorem chZ_r (x : Int) : 0 ≤ chZ x ∧ chZ x ≤ 65535 := by
  have h : (iZ x).toUInt32.toNat % 65536 < 65536 := Nat.mod_lt _ (by decide)
  unfold chZ
  omega
/-! rows for the law and its wrappers: longs and doubles in arrays, compares, the script -/
section PBLR
variable {zs : Nat} {p : Program} {l : Launch} {e : Env} {R : Room} {s : State} {m : MethodId} {args : Array Value} {below : List Frame} {meth : Method} {c : Code} {H : Heap} {bc bs : Nat} {Q : State → Prop}
variable {w : pb_W} {cc : ByteArray} {nL : Nat} {own nm : String} {ret : Option FieldType} {pc : Nat} {ls : Array Slot} {rest : List Value}
theorem pb_lald (C : pb_C w p s m meth c args cc nL own nm ret) {a n : Nat} {g : Nat → Value} {i : Int} {v : Value} (hA : pb_B w H a 2 n g) (hi : 0 ≤ i ∧ i < n ∧ i ≤ 2147483647) (hv : g i.toNat = v) (hdg : decode cc pc = .ok (.laload, 1))
    (kk : pb_V zs p l e R s m args below meth c H bc bs Q (F0 m (pc + 1) ls (v :: rest))) : pb_V zs p l e R s m args below meth c H bc bs Q (F0 m pc ls (.int (iZ i) :: .ref a :: rest)) := by
  obtain ⟨cell, h1, h2, h3, h4, h5, h6⟩ := hA
  refine pb_lift (fun locs cells slots kk => W.lald C.1 C.2.1 h1 (pb_isA (t := 2) (by decide) C.2.2.2.2.2.2.2.2 h2 h3) h4 (pb_ix h5 hi) (v := v) ?_ rfl rfl hdg kk) kk
  rw [iZ_clamp (by omega), h6 _ (by omega), hv]
theorem pb_dald (C : pb_C w p s m meth c args cc nL own nm ret) {a n : Nat} {g : Nat → Value} {i : Int} {v : Value} (hA : pb_B w H a 3 n g) (hi : 0 ≤ i ∧ i < n ∧ i ≤ 2147483647) (hv : g i.toNat = v) (hdg : decode cc pc = .ok (.daload, 1))
    (kk : pb_V zs p l e R s m args below meth c H bc bs Q (F0 m (pc + 1) ls (v :: rest))) : pb_V zs p l e R s m args below meth c H bc bs Q (F0 m pc ls (.int (iZ i) :: .ref a :: rest)) := by
  obtain ⟨cell, h1, h2, h3, h4, h5, h6⟩ := hA
  refine pb_lift (fun locs cells slots kk => W.dald C.1 C.2.1 h1 (pb_isA (t := 3) (by decide) C.2.2.2.2.2.2.2.2 h2 h3) h4 (pb_ix h5 hi) (v := v) ?_ rfl rfl hdg kk) kk
  rw [iZ_clamp (by omega), h6 _ (by omega), hv]
theorem pb_dast (C : pb_C w p s m meth c args cc nL own nm ret) {a n : Nat} {g : Nat → Value} {i : Int} {x : UInt64} (hA : pb_A w H a 3 n g) (hi : 0 ≤ i ∧ i < n ∧ i ≤ 2147483647) (hz : zs ≤ a) (hdg : decode cc pc = .ok (.dastore, 1))
    (kk : ∀ H1 : Heap, pb_Up a H H1 → pb_A w H1 a 3 n (updV g i.toNat (.double x)) → pb_V zs p l e R s m args below meth c H1 bc bs Q (F0 m (pc + 1) ls rest)) : pb_V zs p l e R s m args below meth c H bc bs Q (F0 m pc ls (.double x :: .int (iZ i) :: .ref a :: rest)) := by
  intro locs cells slots a1 b1 d1
  refine W.dast C.1 C.2.1 hA (pb_isA (t := 3) (by decide) C.2.2.2.2.2.2.2.2 rfl rfl) (fun e => nomatch e) (pb_ix (arrV_size _ _ _) hi) rfl rfl hdg fun H' e1 e2 e3 => ?_
  rw [iZ_clamp (by omega), arrV_store] at e1
  refine kk H' ⟨e2, e3⟩ e1 _ _ _ (fun q hq => ?_) b1 d1
  rcases List.mem_append.mp hq with h | h
  · exact a1 q h
  · rw [List.mem_singleton.mp h]; exact hz
theorem pb_lcmpE (C : pb_C w p s m meth c args cc nL own nm ret) {x : Int64} (hdg : decode cc pc = .ok (.lcmp, 1)) (k : pb_V zs p l e R s m args below meth c H bc bs Q (F0 m (pc + 1) ls (.int (iZ 0) :: rest))) : pb_V zs p l e R s m args below meth c H bc bs Q (F0 m pc ls (.long x :: .long x :: rest)) := by
  refine pb_lift (fun locs cells slots k => ?_) k
  obtain ⟨hexec, hb, -⟩ := C
  intro T hT X
  obtain ⟨t, a, b⟩ := k T hT X
  refine ⟨t, ?_, b⟩
  have h1 : ¬ x < x := Int64.lt_irrefl
  rw [iZ_0] at a
  jvm_step X.here [X.here.top, hexec, hb, hdg, h1]
  exact a
theorem pb_dcmpE (C : pb_C w p s m meth c args cc nL own nm ret) {x : UInt64} {op : CmpOp} (hn : vf_n64 x) (hdg : decode cc pc = .ok (.dcmp op, 1)) (k : pb_V zs p l e R s m args below meth c H bc bs Q (F0 m (pc + 1) ls (.int (iZ 0) :: rest))) : pb_V zs p l e R s m args below meth c H bc bs Q (F0 m pc ls (.double x :: .double x :: rest)) := by
  refine pb_lift (fun locs cells slots k => lv_dcmp C.1 C.2.1 hdg ?_) k
  have h1 : FP.Core.decode FP.Core.b64 x.toNat ≠ .nan := fp_nn64 hn
  have h2 : FP.dcmp x x = some .eq := by
    show FP.Core.order (FP.Core.decode FP.Core.b64 x.toNat) (FP.Core.decode FP.Core.b64 x.toNat) = some .eq
    cases h9 : FP.Core.decode FP.Core.b64 x.toNat with
    | nan => exact absurd h9 h1
    | inf b => cases b <;> rfl
    | fin b n k => first | rfl | (unfold FP.Core.order; simp)
  rw [h2, show Op.cmpValue (some .eq) op = iZ 0 from by rw [iZ_0]; rfl]
  exact k
theorem pb_f2dN (C : pb_C w p s m meth c args cc nL own nm ret) {x : UInt32} (hn : vf_n64 (FP.f2d x)) (hdg : decode cc pc = .ok (.f2d, 1)) (k : pb_V zs p l e R s m args below meth c H bc bs Q (F0 m (pc + 1) ls (.double (FP.f2d x) :: rest))) : pb_V zs p l e R s m args below meth c H bc bs Q (F0 m pc ls (.float x :: rest)) :=
  pb_lift (fun _ _ _ k => lv_f2d C.1 C.2.1 hdg hn k) k
theorem fp_f2d {x : UInt32} (h : vf_n32 x) : vf_n64 (FP.f2d x) := by
  have h1 := fp_nn32 h
  have h2 : FP.Core.fIsNaN x = false := decide_eq_false h1
  have h3 : FP.f2d x = UInt64.ofNat (FP.Core.encode FP.Core.b64 (FP.Core.round FP.Core.b64 (FP.Core.decode FP.Core.b32 x.toNat))) := by
    unfold FP.f2d
    rw [h2]; rfl
  rw [h3]
  have h4 := fp_enc64 (fp_round (f := FP.Core.b64) (by decide) (by decide) h1)
  exact (fp_n64 h4.1).mpr h4.2
/-- the script, as integers -/
def xz (xs : Nat → Int32) (j : Nat) : Int := (xs j).toInt
theorem xz_r (xs : Nat → Int32) (j : Nat) : -2147483648 ≤ xz xs j ∧ xz xs j ≤ 2147483647 := by
  have h1 := Int32.le_toInt (xs j)
  have h2 := Int32.toInt_lt (xs j)
  unfold xz
  omega
theorem xz_e (xs : Nat → Int32) (j : Nat) : xs j = iZ (xz xs j) := (Int32.ofInt_toInt (xs j)).symm
theorem pb_sld (C : pb_C w p s m meth c args cc nL own nm ret) {b L : Nat} {xs : Nat → Int32} {i : Int} (hX : va_X b L xs s H) (hi : 0 ≤ i ∧ i < L ∧ i ≤ 2147483647) (hdg : decode cc pc = .ok (.iaload, 1))
    (kk : pb_V zs p l e R s m args below meth c H bc bs Q (F0 m (pc + 1) ls (.int (iZ (xz xs i.toNat)) :: rest))) : pb_V zs p l e R s m args below meth c H bc bs Q (F0 m pc ls (.int (iZ i) :: .ref b :: rest)) := by
  obtain ⟨scr, h1, h2, h3, h4, h5⟩ := hX
  refine pb_lift (fun locs cells slots kk => W.iald C.1 C.2.1 h1 h2 h3 (pb_ix h4 hi) (v := .int (iZ (xz xs i.toNat))) ?_ rfl rfl hdg kk) kk
  rw [iZ_clamp (by omega), h5 _ (by omega), xz_e xs]
theorem pb_sldN (C : pb_C w p s m meth c args cc nL own nm ret) {b L : Nat} {xs : Nat → Int32} {i : Nat} (hX : va_X b L xs s H) (hi : i < L ∧ i ≤ 2147483647) (hdg : decode cc pc = .ok (.iaload, 1))
    (kk : pb_V zs p l e R s m args below meth c H bc bs Q (F0 m (pc + 1) ls (.int (iZ (xz xs i)) :: rest))) : pb_V zs p l e R s m args below meth c H bc bs Q (F0 m pc ls (.int (iZ ((i : Nat) : Int)) :: .ref b :: rest)) :=
  pb_sld C hX ⟨by omega, by omega, by omega⟩ hdg (by rw [Int.toNat_natCast]; exact kk)
theorem pb_slen (C : pb_C w p s m meth c args cc nL own nm ret) {b L : Nat} {xs : Nat → Int32} (hX : va_X b L xs s H) (hdg : decode cc pc = .ok (.arraylength, 1))
    (kk : pb_V zs p l e R s m args below meth c H bc bs Q (F0 m (pc + 1) ls (.int (iZ ((L : Nat) : Int)) :: rest))) : pb_V zs p l e R s m args below meth c H bc bs Q (F0 m pc ls (.ref b :: rest)) := by
  obtain ⟨scr, h1, h2, h3, h4, h5⟩ := hX
  refine pb_lift (fun locs cells slots kk => ?_) kk
  refine W.alen (n := Int32.ofNat L) C.1 C.2.1 h1 h2 (by rw [h4] <;> rfl) rfl rfl hdg ?_
  rw [iZ_nat] at kk
  exact kk
/-- a char out of an int -/
theorem pb_i2c (C : pb_C w p s m meth c args cc nL own nm ret) {x : Int} (hdg : decode cc pc = .ok (.i2c, 1))
    (k : pb_V zs p l e R s m args below meth c H bc bs Q (F0 m (pc + 1) ls (.int (iZ (chZ x)) :: rest))) : pb_V zs p l e R s m args below meth c H bc bs Q (F0 m pc ls (.int (iZ x) :: rest)) := by
  unfold chZ at k
  refine pb_lift (fun locs cells slots k => lv_i2c C.1 C.2.1 hdg ?_ k) k
  apply Int32.toBitVec_inj.mp
  apply BitVec.eq_of_toNat_eq
  rw [iZ_bv]
  have h : (iZ x).toUInt32.toNat % 65536 < 4294967296 := Nat.lt_of_lt_of_le (Nat.mod_lt _ (by decide)) (by decide)
  rw [BitVec.toNat_ofNat, Nat.mod_eq_of_lt h]
  rw [UInt32.toBitVec_toInt32] <;> first | rfl | simp [h]
end PBLR
