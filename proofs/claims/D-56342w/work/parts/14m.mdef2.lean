set_option maxRecDepth 100000
/-! rows made bit by bit -/
def msk (f : Nat → Bool) : Nat → Nat
  | 0 => 0
  | k + 1 => if f k then msk f k ||| 1 <<< k else msk f k
theorem msk_bit (f : Nat → Bool) (k i : Nat) : (msk f k).testBit i = (decide (i < k) && f i) := by
  induction k with
  | zero => simp [msk]
  | succ k ih =>
    have h1 : (1 <<< k : Nat).testBit i = decide (k = i) := by
      rw [Nat.one_shiftLeft]; exact Nat.testBit_two_pow
    unfold msk
    by_cases hk : f k = true
    · rw [if_pos hk, Nat.testBit_or, ih, h1]
      by_cases h : k = i
      · subst h; simp [hk]
      · rw [decide_eq_false h, Bool.or_false]
        by_cases h2 : i < k
        · rw [decide_eq_true h2, decide_eq_true (by omega)]
        · rw [decide_eq_false h2, decide_eq_false (by omega)]
    · rw [if_neg hk, ih]
      have hk' : f k = false := by simpa using hk
      by_cases h : k = i
      · subst h; simp [hk']
      · by_cases h2 : i < k
        · rw [decide_eq_true h2, decide_eq_true (by omega)]
        · rw [decide_eq_false h2, decide_eq_false (by omega)]
theorem msk_lt (f : Nat → Bool) {k n : Nat} (h : k ≤ n) : msk f k < 2 ^ n := by
  apply Nat.lt_pow_two_of_testBit
  intro i hi
  rw [msk_bit, decide_eq_false (by omega), Bool.false_and]
theorem msk_lt24 (f : Nat → Bool) : msk f 24 < 16777216 := msk_lt f (Nat.le_refl 24)
def mdF (φ : Nat → Nat → Bool) (old : Nat → Nat) (k : Nat) : Nat → Nat := fun i => if i < k then msk (φ i) 24 else old i
def mdI (φ : Nat → Nat → Bool) (old : Nat → Nat) (k j : Nat) : Nat → Nat := fun i => if i = k then msk (φ k) j else mdF φ old k i
theorem mdF_0 (φ : Nat → Nat → Bool) (old : Nat → Nat) : mdF φ old 0 = old := by
  funext i; rw [mdF, if_neg (by omega)]
theorem mdI_0 (φ : Nat → Nat → Bool) (old : Nat → Nat) (k : Nat) : va_up (mdF φ old k) k 0 = mdI φ old k 0 := rfl
theorem mdI_24 (φ : Nat → Nat → Bool) (old : Nat → Nat) (k : Nat) : mdI φ old k 24 = mdF φ old (k + 1) := by
  funext i
  unfold mdI mdF
  by_cases h : i = k
  · rw [if_pos h, if_pos (by omega), h]
  · rw [if_neg h]
    by_cases h2 : i < k
    · rw [if_pos h2, if_pos (by omega)]
    · rw [if_neg h2, if_neg (by omega)]
theorem mdI_at (φ : Nat → Nat → Bool) (old : Nat → Nat) (k j : Nat) : mdI φ old k j k = msk (φ k) j := if_pos rfl
theorem mdI_t (φ : Nat → Nat → Bool) (old : Nat → Nat) (k j : Nat) (h : φ k j = true) {v : Nat} (hv : v = msk (φ k) j ||| 1 <<< j) : va_up (mdI φ old k j) k v = mdI φ old k (j + 1) := by
  funext i
  subst hv
  unfold va_up mdI
  by_cases hi : i = k
  · rw [if_pos hi, if_pos hi, msk, if_pos h]
  · rw [if_neg hi, if_neg hi, if_neg hi]
theorem mdI_f (φ : Nat → Nat → Bool) (old : Nat → Nat) (k j : Nat) (h : φ k j = false) : mdI φ old k j = mdI φ old k (j + 1) := by
  funext i
  unfold mdI
  by_cases hi : i = k
  · rw [if_pos hi, if_pos hi, msk, if_neg (by rw [h]; decide)]
  · rw [if_neg hi, if_neg hi]
/-- rows given one by one -/
def mdR (φ : Nat → Nat) (old : Nat → Nat) (k : Nat) : Nat → Nat := fun i => if i < k then φ i else old i
theorem mdR_0 (φ : Nat → Nat) (old : Nat → Nat) : mdR φ old 0 = old := by
  funext i; rw [mdR, if_neg (by omega)]
theorem mdR_step (φ : Nat → Nat) (old : Nat → Nat) (k : Nat) {v : Nat} (hv : φ k = v) : va_up (mdR φ old k) k v = mdR φ old (k + 1) := by
  funext i
  subst hv
  unfold va_up mdR
  by_cases hi : i = k
  · rw [if_pos hi, if_pos (by omega), hi]
  · rw [if_neg hi]
    by_cases h2 : i < k
    · rw [if_pos h2, if_pos (by omega)]
    · rw [if_neg h2, if_neg (by omega)]
/-! winding numbers -/
def wc (px py : Nat → Int) (n : Nat) (x y : Int) (j : Nat) : Int :=
  if px j ≠ px (if j + 1 = n then 0 else j + 1) ∨ px j ≤ x then 0
  else (if py j ≤ y ∧ y < py (if j + 1 = n then 0 else j + 1) then 1 else 0) - (if py (if j + 1 = n then 0 else j + 1) ≤ y ∧ y < py j then 1 else 0)
def wsum (px py : Nat → Int) (n : Nat) (x y : Int) : Nat → Int
  | 0 => 0
  | k + 1 => wsum px py n x y k + wc px py n x y k
theorem wsum_bd (px py : Nat → Int) (n : Nat) (x y : Int) (k : Nat) : -(k : Int) ≤ wsum px py n x y k ∧ wsum px py n x y k ≤ k := by
  induction k with
  | zero => simp [wsum]
  | succ k ih =>
    have : -1 ≤ wc px py n x y k ∧ wc px py n x y k ≤ 1 := by
      unfold wc
      repeat' split
      all_goals omega
    rw [wsum]
    omega
/-- a cell that the path fills -/
def wfill (px py : Nat → Int) (n : Nat) (odd : Bool) (y x : Nat) : Bool :=
  if odd then decide ((wsum px py n x y n).tmod 2 ≠ 0) else decide (wsum px py n x y n ≠ 0)
/-! squares around a cell -/
def sq (g : Nat → Nat) (x y d : Int) (all : Bool) : Prop := ∀ a b : Int, x - d ≤ a → a ≤ x + d → y - d ≤ b → b ≤ y + d → gc g a b = all
noncomputable def sqv (g : Nat → Nat) (x y d : Int) (all : Bool) : Bool := @ite Bool (sq g x y d all) (Classical.propDecidable _) all (!all)
theorem sqv_t {g : Nat → Nat} {x y d : Int} {all : Bool} (h : sq g x y d all) : sqv g x y d all = all := if_pos h
theorem sqv_f {g : Nat → Nat} {x y d : Int} {all : Bool} (h : ¬ sq g x y d all) : sqv g x y d all = !all := if_neg h
theorem iZ_k64 {k : Nat} (hk : k < 64) : (lZ (k : Int) &&& 63) = lZ (k : Int) := by
  have h : ∀ i : Fin 64, lZ ((i.val : Nat) : Int) &&& 63 = lZ ((i.val : Nat) : Int) := by decide +kernel
  exact h ⟨k, hk⟩
theorem lZ_bv (n : Nat) : (lZ (n : Int)).toBitVec = BitVec.ofNat 64 n := by
  rw [lZ, Int64.toBitVec_ofInt]; exact BitVec.ofInt_natCast 64 n
theorem lZ_k {k : Nat} (hk : k < 64) : ((lZ (k : Int)).toBitVec.smod 64).toNat = k := by
  have h : ∀ i : Fin 64, ((lZ ((i.val : Nat) : Int)).toBitVec.smod 64).toNat = i.val := by decide +kernel
  exact h ⟨k, hk⟩
theorem lZ_shl (a : Nat) {k : Nat} (hk : k < 64) : lZ (a : Int) <<< lZ (k : Int) = lZ ((a <<< k : Nat) : Int) := by
  apply Int64.toBitVec_inj.mp
  apply BitVec.eq_of_toNat_eq
  rw [Int64.toBitVec_shiftLeft, BitVec.shiftLeft_eq', lZ_k hk, BitVec.toNat_shiftLeft, lZ_bv, lZ_bv, BitVec.toNat_ofNat, BitVec.toNat_ofNat, Nat.shiftLeft_eq, Nat.shiftLeft_eq, Nat.mod_mul_mod]
theorem lZ_and (a b : Nat) : lZ (a : Int) &&& lZ (b : Int) = lZ ((a &&& b : Nat) : Int) := by
  apply Int64.toBitVec_inj.mp
  rw [Int64.toBitVec_and, lZ_bv, lZ_bv, lZ_bv]
  apply BitVec.eq_of_toNat_eq
  simp [Nat.and_mod_two_pow]
section PBL
variable {zs : Nat} {p : Program} {l : Launch} {e : Env} {R : Room} {s : State} {m : MethodId} {args : Array Value} {below : List Frame} {meth : Method} {c : Code} {H : Heap} {bc bs : Nat} {Q : State → Prop}
variable {w : pb_W} {cc : ByteArray} {nL : Nat} {own nm : String} {ret : Option FieldType} {pc : Nat} {ls : Array Slot} {rest : List Value}
theorem pb_lshl (C : pb_C w p s m meth c args cc nL own nm ret) {x y : Nat} (hdg : decode cc pc = .ok (.lshl, 1)) (hy : y < 64) (k : pb_V zs p l e R s m args below meth c H bc bs Q (F0 m (pc + 1) ls (.long (lZ ((x <<< y : Nat) : Int)) :: rest))) : pb_V zs p l e R s m args below meth c H bc bs Q (F0 m pc ls (.int (iZ (y : Int)) :: .long (lZ (x : Int)) :: rest)) :=
  pb_lift (fun _ _ _ k => lv_lshl C.1 C.2.1 hdg (by rw [iZ_lZ (by omega), iZ_k64 hy, lZ_shl x hy]) k) k
theorem pb_land (C : pb_C w p s m meth c args cc nL own nm ret) {x y : Nat} (hdg : decode cc pc = .ok (.land, 1)) (k : pb_V zs p l e R s m args below meth c H bc bs Q (F0 m (pc + 1) ls (.long (lZ ((x &&& y : Nat) : Int)) :: rest))) : pb_V zs p l e R s m args below meth c H bc bs Q (F0 m pc ls (.long (lZ (y : Int)) :: .long (lZ (x : Int)) :: rest)) :=
  pb_lift (fun _ _ _ k => lv_land C.1 C.2.1 hdg (lZ_and x y ▸ k)) k
theorem pb_ldc2z (C : pb_C w p s m meth c args cc nL own nm ret) {i : Nat} {v : Int64} (hdg : decode cc pc = .ok (.ldc2_w i, 3)) (hq : Cond.constantLong own i v ∈ lw_all) (n : Nat) (hz : v = lZ (n : Int)) (k : pb_V zs p l e R s m args below meth c H bc bs Q (F0 m (pc + 3) ls (.long (lZ (n : Int)) :: rest))) : pb_V zs p l e R s m args below meth c H bc bs Q (F0 m pc ls rest) :=
  pb_ldc2l C hdg hq (hz ▸ k)
end PBL
theorem bI_inj {a b : Bool} (h : bI a = bI b) : a = b := by cases a <;> cases b <;> first | rfl | exact absurd h (by decide)
/-- a row moved -/
def mvrow (g : Nat → Nat) (r u : Int) (k : Nat) : Nat := if 0 ≤ r then (gr g ((k : Int) - u)) <<< r.toNat &&& 16777215 else (gr g ((k : Int) - u)) >>> (-r).toNat
theorem mvrow_lt {g : Nat → Nat} (h : gok g) (r u : Int) (k : Nat) : mvrow g r u k < 16777216 := by
  unfold mvrow
  split
  · exact Nat.and_lt_two_pow (n := 24) _ (by decide)
  · rw [Nat.shiftRight_eq_div_pow]
    exact Nat.lt_of_le_of_lt (Nat.div_le_self _ _) (gr_lt h _)
/-- two rows combined: union, intersection, difference, exclusive -/
def gop (way : Nat) (a b : Nat) : Nat := match way with
  | 1 => a ||| b
  | 2 => a &&& b
  | 3 => pb_dif a b
  | _ => a ^^^ b
theorem gop_lt {way a b : Nat} (ha : a < 16777216) (hb : b < 16777216) : gop way a b < 16777216 := by
  unfold gop
  split
  · exact or_lt24 ha hb
  · exact Nat.and_lt_two_pow (n := 24) _ hb
  · exact dif_lt24 ha
  · exact Nat.xor_lt_two_pow (n := 24) ha hb
theorem pb_tm2 (x : Int) : -1 ≤ x.tmod 2 ∧ x.tmod 2 ≤ 1 := by
  have h := Int.tmod_lt_of_pos x (show (0 : Int) < 2 by decide)
  have h2 := Int.lt_tmod_of_pos x (show (0 : Int) < 2 by decide)
  omega
