set_option maxRecDepth 100000
/-! more rows -/
section PBM
variable {zs : Nat} {p : Program} {l : Launch} {e : Env} {R : Room} {s : State} {m : MethodId} {args : Array Value} {below : List Frame} {meth : Method} {c : Code} {H : Heap} {bc bs : Nat} {Q : State → Prop}
variable {w : pb_W} {cc : ByteArray} {nL : Nat} {own nm : String} {ret : Option FieldType} {pc : Nat} {ls : Array Slot} {rest : List Value}
theorem pb_tswI (C : pb_C w p s m meth c args cc nL own nm ret) {dflt lo hi : Int} {offs : Array Int} {len : Nat} {x off : Int} {tgt : Nat} (hdg : decode cc pc = .ok (.tableswitch dflt lo hi offs, len)) (hx : -2147483648 ≤ x ∧ x ≤ 2147483647) (h1 : lo ≤ x) (h2 : x ≤ hi) (ho : offs[(x - lo).toNat]? = some off) (ht : (pc : Int) + off = (tgt : Int)) (k : pb_V zs p l e R s m args below meth c H bc bs Q (F0 m tgt ls rest)) : pb_V zs p l e R s m args below meth c H bc bs Q (F0 m pc ls (.int (iZ x) :: rest)) :=
  pb_lift (fun _ _ _ k => lv_tableIn C.1 C.2.1 hdg (by rw [iZ_toInt hx]; omega) (by rw [iZ_toInt hx]; omega) (by rw [iZ_toInt hx]; exact ho) ht k) k
theorem pb_tswO (C : pb_C w p s m meth c args cc nL own nm ret) {dflt lo hi : Int} {offs : Array Int} {len : Nat} {x : Int} {tgt : Nat} (hdg : decode cc pc = .ok (.tableswitch dflt lo hi offs, len)) (hx : -2147483648 ≤ x ∧ x ≤ 2147483647) (h : x < lo ∨ hi < x) (ht : (pc : Int) + dflt = (tgt : Int)) (k : pb_V zs p l e R s m args below meth c H bc bs Q (F0 m tgt ls rest)) : pb_V zs p l e R s m args below meth c H bc bs Q (F0 m pc ls (.int (iZ x) :: rest)) :=
  pb_lift (fun _ _ _ k => lv_tableOut C.1 C.2.1 hdg (by rw [iZ_toInt hx]; omega) ht k) k
theorem pb_anull (C : pb_C w p s m meth c args cc nL own nm ret) (hdg : decode cc pc = .ok (.aconst_null, 1)) (k : pb_V zs p l e R s m args below meth c H bc bs Q (F0 m (pc + 1) ls (.null :: rest))) : pb_V zs p l e R s m args below meth c H bc bs Q (F0 m pc ls rest) :=
  pb_lift (fun _ _ _ k => lv_null C.1 C.2.1 hdg k) k
theorem pb_fc0 (C : pb_C w p s m meth c args cc nL own nm ret) (hdg : decode cc pc = .ok (.fconst 0, 1)) (k : pb_V zs p l e R s m args below meth c H bc bs Q (F0 m (pc + 1) ls (.float FP.fconst0 :: rest))) : pb_V zs p l e R s m args below meth c H bc bs Q (F0 m pc ls rest) :=
  pb_lift (fun _ _ _ k => lv_fconst0 C.1 C.2.1 hdg k) k
theorem pb_dc0 (C : pb_C w p s m meth c args cc nL own nm ret) (hdg : decode cc pc = .ok (.dconst 0, 1)) (k : pb_V zs p l e R s m args below meth c H bc bs Q (F0 m (pc + 1) ls (.double FP.dconst0 :: rest))) : pb_V zs p l e R s m args below meth c H bc bs Q (F0 m pc ls rest) :=
  pb_lift (fun _ _ _ k => lv_dconst0 C.1 C.2.1 hdg k) k
end PBM
/-! floats: no NaN comes up -/
section PBF
def fpok (f : FP.Core.Fmt) : FP.Core.Datum → Prop
  | .nan => False
  | .inf _ => True
  | .fin _ c q => c < 2 ^ f.p ∧ f.qmin ≤ q ∧ q ≤ f.qmax
theorem fp_settle {f : FP.Core.Fmt} (hp : f.tails < 2 ^ f.p) (s : Bool) (c : Nat) (q : Int) (hq : f.qmin ≤ q) : fpok f (FP.Core.settle f s c q) := by
  unfold FP.Core.settle FP.Core.bound
  split
  · next h =>
    split
    · next h2 => exact ⟨h, hq, h2⟩
    · trivial
  · split
    · next h2 => exact ⟨hp, by omega, h2⟩
    · trivial
theorem fp_rr {f : FP.Core.Fmt} (hp : f.tails < 2 ^ f.p) (hm : f.qmin ≤ f.qmax) (s : Bool) (n d : Nat) (e : Int) : fpok f (FP.Core.roundRatio f s n d e) := by
  unfold FP.Core.roundRatio
  split
  · exact ⟨Nat.two_pow_pos _, by omega, hm⟩
  · exact fp_settle hp _ _ _ (by unfold FP.Core.quantum; omega)
theorem fp_round {f : FP.Core.Fmt} (hp : f.tails < 2 ^ f.p) (hm : f.qmin ≤ f.qmax) {d : FP.Core.Datum} (h : d ≠ .nan) : fpok f (FP.Core.round f d) := by
  cases d with
  | nan => exact absurd rfl h
  | inf s => trivial
  | fin s c q => exact fp_rr hp hm _ _ _ _
theorem fp_quo {f : FP.Core.Fmt} (hp : f.tails < 2 ^ f.p) (hm : f.qmin ≤ f.qmax) {x : FP.Core.Datum} (h : x ≠ .nan) (t : Bool) {d : Nat} (hd : d ≠ 0) (r : Int) : fpok f (FP.Core.quotient f x (.fin t d r)) := by
  cases x with
  | nan => exact absurd rfl h
  | inf s => trivial
  | fin s c q => show fpok f (if d = 0 then _ else _); rw [if_neg hd]; exact fp_rr hp hm _ _ _ _
theorem fp_enc64 {d : FP.Core.Datum} (h : fpok FP.Core.b64 d) : FP.Core.encode FP.Core.b64 d < 2 ^ 64 ∧ FP.Core.encode FP.Core.b64 d % 2 ^ 63 ≤ 0x7ff0000000000000 := by
  have e1 : FP.Core.b64.tails = 2 ^ 52 := rfl
  have e2 : FP.Core.b64.exps = 2048 := rfl
  have e3 : FP.Core.b64.qmin = -1074 := rfl
  have e4 : FP.Core.b64.qmax = 971 := rfl
  have e5 : FP.Core.b64.p = 53 := rfl
  cases d with
  | nan => cases h
  | inf s => cases s <;> exact ⟨by decide, by decide⟩
  | fin s c q =>
    obtain ⟨h1, h2, h3⟩ := h
    rw [e5] at h1
    rw [e3] at h2
    rw [e4] at h3
    have e6 : FP.Core.encode FP.Core.b64 (.fin s c q) = if c < 2 ^ 52 then (s.toNat * 2048 + 0) * 2 ^ 52 + c else (s.toNat * 2048 + ((q - -1074).toNat + 1)) * 2 ^ 52 + (c - 2 ^ 52) := rfl
    rw [e6]
    have hs : s.toNat ≤ 1 := by cases s <;> decide
    split <;> omega
theorem fp_enc32 {d : FP.Core.Datum} (h : fpok FP.Core.b32 d) : FP.Core.encode FP.Core.b32 d < 2 ^ 32 ∧ FP.Core.encode FP.Core.b32 d % 2 ^ 31 ≤ 0x7f800000 := by
  have e1 : FP.Core.b32.tails = 2 ^ 23 := rfl
  have e2 : FP.Core.b32.exps = 256 := rfl
  have e3 : FP.Core.b32.qmin = -149 := rfl
  have e4 : FP.Core.b32.qmax = 104 := rfl
  have e5 : FP.Core.b32.p = 24 := rfl
  cases d with
  | nan => cases h
  | inf s => cases s <;> exact ⟨by decide, by decide⟩
  | fin s c q =>
    obtain ⟨h1, h2, h3⟩ := h
    rw [e5] at h1
    rw [e3] at h2
    rw [e4] at h3
    have e6 : FP.Core.encode FP.Core.b32 (.fin s c q) = if c < 2 ^ 23 then (s.toNat * 256 + 0) * 2 ^ 23 + c else (s.toNat * 256 + ((q - -149).toNat + 1)) * 2 ^ 23 + (c - 2 ^ 23) := rfl
    rw [e6]
    have hs : s.toNat ≤ 1 := by cases s <;> decide
    split <;> omega
theorem fp_n64 {n : Nat} (h : n < 2 ^ 64) : vf_n64 (UInt64.ofNat n) ↔ n % 2 ^ 63 ≤ 0x7ff0000000000000 := by
  unfold vf_n64
  rw [UInt64.le_iff_toNat_le, UInt64.toNat_and, UInt64.toNat_ofNat_of_lt' h, show (0x7fffffffffffffff : UInt64).toNat = 2 ^ 63 - 1 from rfl, Nat.and_two_pow_sub_one_eq_mod]
  exact Iff.rfl
theorem fp_n32 {n : Nat} (h : n < 2 ^ 32) : vf_n32 (UInt32.ofNat n) ↔ n % 2 ^ 31 ≤ 0x7f800000 := by
  unfold vf_n32
  rw [UInt32.le_iff_toNat_le, UInt32.toNat_and, UInt32.toNat_ofNat_of_lt' h, show (0x7fffffff : UInt32).toNat = 2 ^ 31 - 1 from rfl, Nat.and_two_pow_sub_one_eq_mod]
  exact Iff.rfl
theorem fp_nn64 {x : UInt64} (h : vf_n64 x) : FP.Core.decode FP.Core.b64 x.toNat ≠ .nan := by
  have hx := x.toNat_lt
  rw [← UInt64.ofNat_toNat (x := x), fp_n64 hx] at h
  have e1 : FP.Core.b64.tails = 2 ^ 52 := rfl
  have e2 : FP.Core.b64.exps = 2048 := rfl
  unfold FP.Core.decode FP.Core.fieldE FP.Core.fieldT
  rw [e1, e2]
  split
  · rw [if_pos (by omega)]; exact fun z => by cases z
  · split <;> exact fun z => by cases z
theorem fp_nn32 {x : UInt32} (h : vf_n32 x) : FP.Core.decode FP.Core.b32 x.toNat ≠ .nan := by
  have hx := x.toNat_lt
  rw [← UInt32.ofNat_toNat (x := x), fp_n32 hx] at h
  have e1 : FP.Core.b32.tails = 2 ^ 23 := rfl
  have e2 : FP.Core.b32.exps = 256 := rfl
  unfold FP.Core.decode FP.Core.fieldE FP.Core.fieldT
  rw [e1, e2]
  split
  · rw [if_pos (by omega)]; exact fun z => by cases z
  · split <;> exact fun z => by cases z
theorem fp_i2d (x : Int32) : vf_n64 (FP.i2d x) :=
  have h := fp_enc64 (fp_round (f := FP.Core.b64) (by decide) (by decide) (d := FP.Core.ofInt x.toInt) (by unfold FP.Core.ofInt; exact fun z => by cases z))
  (fp_n64 h.1).mpr h.2
theorem fp_i2f (x : Int32) : vf_n32 (FP.i2f x) :=
  have h := fp_enc32 (fp_round (f := FP.Core.b32) (by decide) (by decide) (d := FP.Core.ofInt x.toInt) (by unfold FP.Core.ofInt; exact fun z => by cases z))
  (fp_n32 h.1).mpr h.2
def fpnz (f : FP.Core.Fmt) (n : Nat) : Bool := match FP.Core.decode f n with
  | .fin _ d _ => d ≠ 0
  | _ => false
theorem fp_ddiv {x y : UInt64} (hx : vf_n64 x) (hy : fpnz FP.Core.b64 y.toNat = true) : vf_n64 (FP.ddiv x y) := by
  unfold fpnz at hy
  have h : fpok FP.Core.b64 (FP.Core.quotient FP.Core.b64 (FP.Core.decode FP.Core.b64 x.toNat) (FP.Core.decode FP.Core.b64 y.toNat)) := by
    split at hy
    · next t d r e => rw [e]; exact fp_quo (by decide) (by decide) (fp_nn64 hx) _ (by simpa using hy) _
    · cases hy
  have h := fp_enc64 h
  exact (fp_n64 h.1).mpr h.2
theorem fp_fdiv {x y : UInt32} (hx : vf_n32 x) (hy : fpnz FP.Core.b32 y.toNat = true) : vf_n32 (FP.fdiv x y) := by
  unfold fpnz at hy
  have h : fpok FP.Core.b32 (FP.Core.quotient FP.Core.b32 (FP.Core.decode FP.Core.b32 x.toNat) (FP.Core.decode FP.Core.b32 y.toNat)) := by
    split at hy
    · next t d r e => rw [e]; exact fp_quo (by decide) (by decide) (fp_nn32 hx) _ (by simpa using hy) _
    · cases hy
  have h := fp_enc32 h
  exact (fp_n32 h.1).mpr h.2
theorem fp_two : fpnz FP.Core.b64 (4611686018427387904 : UInt64).toNat = true := by decide +kernel
theorem fp_nz64 {k : Nat} (h0 : 0 < k) (h : k < 1000) : fpnz FP.Core.b64 (FP.i2d (iZ (k : Int))).toNat = true := by
  have h2 : ∀ i : Fin 999, fpnz FP.Core.b64 (FP.i2d (iZ ((i.val + 1 : Nat) : Int))).toNat = true := by decide +kernel
  have := h2 ⟨k - 1, by omega⟩
  rwa [show k - 1 + 1 = k by omega] at this
theorem fp_nz32 {k : Nat} (h0 : 0 < k) (h : k < 1000) : fpnz FP.Core.b32 (FP.i2f (iZ (k : Int))).toNat = true := by
  have h2 : ∀ i : Fin 999, fpnz FP.Core.b32 (FP.i2f (iZ ((i.val + 1 : Nat) : Int))).toNat = true := by decide +kernel
  have := h2 ⟨k - 1, by omega⟩
  rwa [show k - 1 + 1 = k by omega] at this
end PBF
/-! steps -/
def mdZ (φ : Nat → Int) (old : Nat → Int) (k : Nat) : Nat → Int := fun i => if i < k then φ i else old i
theorem mdZ_0 (φ : Nat → Int) (old : Nat → Int) : mdZ φ old 0 = old := by
  funext i; rw [mdZ, if_neg (by omega)]
theorem mdZ_step (φ : Nat → Int) (old : Nat → Int) (k : Nat) {v : Int} (hv : φ k = v) : va_up (mdZ φ old k) k v = mdZ φ old (k + 1) := by
  funext i
  subst hv
  unfold va_up mdZ
  by_cases hi : i = k
  · rw [if_pos hi, if_pos (by omega), hi]
  · rw [if_neg hi]
    by_cases h2 : i < k
    · rw [if_pos h2, if_pos (by omega)]
    · rw [if_neg h2, if_neg (by omega)]
theorem mdZ_skip (φ : Nat → Int) (old : Nat → Int) (k : Nat) (hv : φ k = old k) : mdZ φ old k = mdZ φ old (k + 1) := by
  funext i
  unfold mdZ
  by_cases hi : i = k
  · rw [if_neg (by omega), if_pos (by omega), hi, hv]
  · by_cases h2 : i < k
    · rw [if_pos h2, if_pos (by omega)]
    · rw [if_neg h2, if_neg (by omega)]
abbrev nxtTo (n : Int) (F : Nat → Int) (k : Nat) : Prop := (0 < k % 24 ∧ F (k - 1) = n) ∨ (k % 24 < 23 ∧ F (k + 1) = n) ∨ (0 < k / 24 ∧ F (k - 24) = n) ∨ (k / 24 < 23 ∧ F (k + 24) = n)
/-- one round -/
def stp (g : Nat → Nat) (n : Int) (F : Nat → Int) (k : Nat) : Int := if F k < 0 ∧ gc g ((k % 24 : Nat) : Int) ((k / 24 : Nat) : Int) = true ∧ nxtTo n F k then n + 1 else F k
def bfs (g : Nat → Nat) (a : Nat) (old : Nat → Int) : Nat → Nat → Int
  | 0 => va_up (mdZ (fun _ => -1) old 576) a 0
  | n + 1 => mdZ (stp g n (bfs g a old n)) (bfs g a old n) 576
theorem stp_eq (g : Nat → Nat) {n : Int} (hn : 0 ≤ n) (F : Nat → Int) (k j : Nat) : mdZ (stp g n F) F k j = n ↔ F j = n := by
  unfold mdZ stp
  split
  · split
    · next h => constructor <;> intro h2 <;> omega
    · exact Iff.rfl
  · exact Iff.rfl
theorem stp_at (g : Nat → Nat) (n : Int) (F : Nat → Int) (k : Nat) : mdZ (stp g n F) F k k = F k := if_neg (by omega)
theorem bfs_rng (g : Nat → Nat) (a : Nat) (old : Nat → Int) (n : Nat) : ∀ k, k < 576 → -1 ≤ bfs g a old n k ∧ bfs g a old n k ≤ n := by
  induction n with
  | zero =>
    intro k hk
    unfold bfs va_up mdZ
    rw [if_pos hk]
    split
    · omega
    · exact ⟨Int.le_refl _, by show (-1 : Int) ≤ _; omega⟩
  | succ n ih =>
    intro k hk
    have := ih k hk
    rw [bfs, mdZ, if_pos hk, stp]
    split <;> omega
/-- the cells not reached yet -/
def nneg (F : Nat → Int) : Nat := sm (fun k => if F k < 0 then 1 else 0) 576
theorem nneg_0 (g : Nat → Nat) {a : Nat} (ha : a < 576) (old : Nat → Int) : nneg (bfs g a old 0) ≤ 575 := by
  have h1 : nneg (bfs g a old 0) < sm (fun _ => 1) 576 := by
    refine sm_lt ha (fun i _ => ?_) ?_
    · show (if _ then 1 else 0) ≤ 1
      split <;> omega
    · have e : bfs g a old 0 a = 0 := by unfold bfs va_up; rw [if_pos rfl]
      show (if bfs g a old 0 a < 0 then 1 else 0) < 1
      rw [e]; decide
  have h2 : ∀ k, sm (fun _ => 1) k = k := by
    intro k; induction k with
    | zero => rfl
    | succ k ih => rw [sm, ih]
  rw [h2] at h1
  omega
theorem nneg_le {n : Nat} (g : Nat → Nat) (F : Nat → Int) : ∀ k, k < 576 → (if mdZ (stp g n F) F 576 k < 0 then 1 else 0 : Nat) ≤ if F k < 0 then 1 else 0 := by
  intro k hk
  rw [mdZ, if_pos hk, stp]
  split
  · rw [if_neg (by omega)]; exact Nat.zero_le _
  · exact Nat.le_refl _
theorem sm_mono {f h : Nat → Nat} {n : Nat} (hh : ∀ i, i < n → f i ≤ h i) : sm f n ≤ sm h n := by
  induction n with
  | zero => exact Nat.le_refl _
  | succ n ih => have := ih (fun i hi => hh i (by omega)); have := hh n (by omega); rw [sm, sm]; omega
theorem nneg_mono {n : Nat} (g : Nat → Nat) (F : Nat → Int) : nneg (mdZ (stp g n F) F 576) ≤ nneg F := sm_mono (nneg_le g F)
theorem nneg_dec {n : Nat} {g : Nat → Nat} {F : Nat → Int} (h : ∃ i, i < 576 ∧ stp g n F i ≠ F i) : nneg (mdZ (stp g n F) F 576) < nneg F := by
  obtain ⟨i, hi, hne⟩ := h
  refine sm_lt hi (nneg_le g F) ?_
  show (if mdZ (stp g n F) F 576 i < 0 then 1 else 0 : Nat) < if F i < 0 then 1 else 0
  rw [mdZ, if_pos hi]
  unfold stp at hne ⊢
  split at hne
  · next h2 => rw [if_pos h2, if_neg (by omega), if_pos h2.1]; decide
  · exact absurd rfl hne
/-- whether a line leads from a point: to the right, up, to the left, down -/
def ldr (g : Nat → Nat) (x y : Int) : Nat → Bool
  | 0 => gc g x y && !gc g x (y - 1)
  | 1 => gc g (x - 1) y && !gc g x y
  | 2 => gc g (x - 1) (y - 1) && !gc g (x - 1) y
  | _ => gc g x (y - 1) && !gc g (x - 1) (y - 1)
theorem gc_nat (g : Nat → Nat) (x y : Nat) : gc g (x : Int) (y : Int) = (g y).testBit x := by
  rw [gc, gr_nat, decide_eq_true (by omega), Bool.true_and]; rfl
def momR (g : Nat → Nat) (y x : Nat) : Nat := if gc g x y then x * x + y * y else 0
def momV (g : Nat → Nat) : Nat := sm (fun y => sm (momR g y) 24) 24
def midR (g : Nat → Nat) (y x : Nat) : Nat := if gc g x y then 2 * x + 1 else 0
def midX (g : Nat → Nat) : Nat := sm (fun y => sm (midR g y) 24) 24
def midY (g : Nat → Nat) : Nat := sm (fun y => (2 * y + 1) * pop 32 (g y)) 24
def midV (sum c : Nat) : UInt64 := FP.ddiv (FP.ddiv (FP.i2d (iZ (sum : Int))) 4611686018427387904) (FP.i2d (iZ (c : Int)))
def fulV (c b : Nat) : UInt32 := FP.fdiv (FP.i2f (iZ (c : Int))) (FP.i2f (iZ (b : Int)))
/-- the sides of what is on a sheet -/
def boxP (g : Nat → Nat) (xl xr xb xt : Nat) : Prop :=
  (xl < 24 ∧ (shdw g 24).testBit xl = true ∧ ∀ i, i < xl → (shdw g 24).testBit i = false) ∧
  (1 ≤ xr ∧ xr ≤ 24 ∧ (shdw g 24).testBit (xr - 1) = true ∧ ∀ i, xr ≤ i → i < 24 → (shdw g 24).testBit i = false) ∧
  (xb < 24 ∧ g xb ≠ 0 ∧ ∀ i, i < xb → g i = 0) ∧ (1 ≤ xt ∧ xt ≤ 24 ∧ g (xt - 1) ≠ 0 ∧ ∀ i, xt ≤ i → g i = 0)
theorem box_lt {g : Nat → Nat} {xl xr xb xt : Nat} (h : boxP g xl xr xb xt) : xl < xr ∧ xr ≤ 24 ∧ xb < xt ∧ xt ≤ 24 := by
  obtain ⟨⟨a1, a2, a3⟩, ⟨b1, b2, b3, b4⟩, ⟨c1, c2, c3⟩, d1, d2, d3, d4⟩ := h
  refine ⟨?_, b2, ?_, d2⟩
  · by_cases h : xr ≤ xl
    · rw [b4 xl h a1] at a2; cases a2
    · omega
  · by_cases h : xt ≤ xb
    · exact absurd (d4 xb h) c2
    · omega
theorem mI_00 (S : mS) (k : Nat) (a b : Int) : mI (mI S k a) k b = mI S k b := by
  have : va_up (va_up S.1 k a) k b = va_up S.1 k b := by
    funext j; unfold va_up; split <;> rfl
  unfold mI
  rw [this]
theorem box_cast {a b c d : Nat} (h1 : b ≤ a) (h2 : d ≤ c) : ((a : Int) - b) * ((c : Int) - d) = (((a - b) * (c - d) : Nat) : Int) := by
  rw [Int.natCast_mul, Int.ofNat_sub h1, Int.ofNat_sub h2]
theorem sm_lt2 {f : Nat → Nat} {c : Nat} (h : ∀ i, i < 24 → f i ≤ c) {k : Nat} (hk : k ≤ 24) : sm f k ≤ k * c := by
  induction k with
  | zero => simp [sm]
  | succ k ih => have := h k (by omega); have := ih (by omega); rw [sm, Nat.succ_mul]; omega
theorem midX_le (g : Nat → Nat) : ∀ y, sm (midR g y) 24 ≤ 24 * 47 := fun y => sm_lt2 (fun i hi => by unfold midR; split <;> omega) (Nat.le_refl 24)
theorem midY_le (g : Nat → Nat) {k : Nat} (hk : k ≤ 24) : sm (fun y => (2 * y + 1) * pop 32 (g y)) k ≤ k * (47 * 32) :=
  sm_lt2 (fun i hi => Nat.mul_le_mul (by omega) (pop_le 32 _)) hk
theorem mC_self (S : mS) (k : Nat) : mC S k (S.2.2 k) = S := by
  have : va_up S.2.2 k (S.2.2 k) = S.2.2 := by
    funext j
    unfold va_up
    split
    · next h => rw [h]
    · rfl
  rw [mC, this]
theorem stp_n {g : Nat → Nat} {n : Int} {F : Nat → Int} {k : Nat} (h : ¬ (F k < 0 ∧ gc g ((k % 24 : Nat) : Int) ((k / 24 : Nat) : Int) = true ∧ nxtTo n F k)) : stp g n F k = F k := if_neg h
theorem stp_y {g : Nat → Nat} {n : Nat} {F : Nat → Int} {k : Nat} (h : F k < 0) (h2 : gc g ((k % 24 : Nat) : Int) ((k / 24 : Nat) : Int) = true) (h3 : nxtTo n F k) : stp g n F k = ((n + 1 : Nat) : Int) := if_pos ⟨h, h2, h3⟩
theorem stp_ne {g : Nat → Nat} {n : Nat} {F : Nat → Int} {k : Nat} (h : F k < 0) (h2 : stp g n F k = ((n + 1 : Nat) : Int)) : stp g n F k ≠ F k := by rw [h2]; omega
/-- whether one of the first cells was reached in this round -/
def stM (g : Nat → Nat) (n : Nat) (F : Nat → Int) (k : Nat) (m : Bool) : Prop := m = true ↔ ∃ i, i < k ∧ stp g n F i ≠ F i
theorem stM_0 {g : Nat → Nat} {n : Nat} {F : Nat → Int} : stM g n F 0 false := ⟨fun h => (by cases h), fun ⟨i, hi, _⟩ => absurd hi (by omega)⟩
theorem stp_t {g : Nat → Nat} {n : Nat} {F : Nat → Int} {k : Nat} (h : stp g n F k ≠ F k) : stM g n F (k + 1) true := ⟨fun _ => ⟨k, by omega, h⟩, fun _ => rfl⟩
theorem stp_f {g : Nat → Nat} {n : Nat} {F : Nat → Int} {k : Nat} {m : Bool} (h : stM g n F k m) (hk : stp g n F k = F k) : stM g n F (k + 1) m := by
  unfold stM at h ⊢
  rw [h]
  constructor
  · rintro ⟨i, hi, hp⟩; exact ⟨i, by omega, hp⟩
  · rintro ⟨i, hi, hp⟩
    by_cases e : i = k
    · subst e; exact absurd hk hp
    · exact ⟨i, by omega, hp⟩
theorem stp_rng {g : Nat → Nat} {n : Nat} {F : Nat → Int} (h : ∀ j, j < 576 → -1 ≤ F j ∧ F j ≤ n) (k : Nat) : ∀ j, j < 576 → -1 ≤ mdZ (stp g n F) F k j ∧ mdZ (stp g n F) F k j ≤ n + 1 := by
  intro j hj
  have := h j hj
  unfold mdZ stp
  split
  · split <;> omega
  · omega
theorem bfs_stable {g : Nat → Nat} {a : Nat} {old : Nat → Int} {n : Nat} (h : ∀ i, i < 576 → stp g n (bfs g a old n) i = bfs g a old n i) : bfs g a old (n + 2) = bfs g a old (n + 1) := by
  have e1 : bfs g a old (n + 1) = bfs g a old n := by
    funext i
    rw [bfs, mdZ]
    split
    · next hi => exact h i hi
    · rfl
  show mdZ (stp g ((n + 1 : Nat) : Int) (bfs g a old (n + 1))) (bfs g a old (n + 1)) 576 = _
  rw [e1]
  funext i
  rw [mdZ]
  split
  · next hi =>
    refine stp_n (fun hc => ?_)
    have hr := bfs_rng g a old n
    obtain ⟨h1, -, h3⟩ := hc
    rcases h3 with h3 | h3 | h3 | h3
    · have := hr (i - 1) (by omega); omega
    · have := hr (i + 1) (by omega); omega
    · have := hr (i - 24) (by omega); omega
    · have := hr (i + 24) (by omega); omega
  · rfl
theorem stM_f {g : Nat → Nat} {a : Nat} {old : Nat → Int} {n : Nat} {m : Bool} (h : stM g n (bfs g a old n) 576 m) (hm : m = false) : bfs g a old (n + 2) = bfs g a old (n + 1) :=
  bfs_stable fun i hi => Classical.byContradiction fun z => by rw [h.mpr ⟨i, hi, z⟩] at hm; cases hm
theorem stM_n {g : Nat → Nat} {a : Nat} {old : Nat → Int} {n : Nat} {m : Bool} (h : stM g n (bfs g a old n) 576 m) (hn : n + nneg (bfs g a old n) ≤ 575) : n + 1 + nneg (bfs g a old (n + 1)) + (bI m).toNat ≤ 576 := by
  cases m with
  | false => have := nneg_mono (n := n) g (bfs g a old n); show n + 1 + nneg (mdZ _ _ 576) + 0 ≤ 576; omega
  | true => have := nneg_dec (n := n) (h.mp rfl); show n + 1 + nneg (mdZ _ _ 576) + 1 ≤ 576; omega
