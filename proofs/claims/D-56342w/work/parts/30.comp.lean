set_option maxRecDepth 100000
/-! THE COMPONENT's cells -/
/-- the classes' numbers are distinct -/
def pb_cid (w : pb_W) (k : Nat) : ClassId := if k < 19 then w.1.1 k else w.2.1 (k - 19)
def pb_nms : List String := pb_cl.map (fun q => q.1) ++ ["[I", "[Z", "[J", "[D", "[Ljava/lang/Object;", "[LPolygonBoard$Operation;"]
theorem pb_nms_ne : ∀ i : Fin 25, ∀ j : Fin 25, i ≠ j → pb_nms[i.val]? ≠ pb_nms[j.val]? := by decide +kernel
theorem pb_nm_at {w : pb_W} {s : State} (h : pb_K w s) : ∀ i : Fin 25, ∃ n, pb_nms[i.val]? = some n ∧ s.vm.findClass n = some (pb_cid w i.val) := by
  intro i
  obtain ⟨i, hi⟩ := i
  by_cases h1 : i < 19
  · have hq : ∃ q, pb_cl[i]? = some q := ⟨pb_cl[i]'(by exact h1), List.getElem?_eq_getElem h1⟩
    obtain ⟨q, hq⟩ := hq
    refine ⟨q.1, ?_, ?_⟩
    · show (pb_cl.map (fun q => q.1) ++ _)[i]? = _
      rw [List.getElem?_append_left (by simpa using h1), List.getElem?_map, hq]; rfl
    · have := (h.1.1 i q hq).2.1
      unfold pb_cid
      rw [if_pos h1]
      exact this
  · have ht : i - 19 < 6 := by omega
    refine ⟨"[" ++ (pb_aty (i - 19)).toString, ?_, ?_⟩
    · match i, hi, h1 with
      | 19, _, _ => rfl
      | 20, _, _ => rfl
      | 21, _, _ => rfl
      | 22, _, _ => rfl
      | 23, _, _ => rfl
      | 24, _, _ => rfl
      | n + 25, hi, _ => omega
    · have := (h.1.2 (i - 19) _ (pb_ty_at w.2.1 ht)).2
      unfold pb_cid
      rw [if_neg h1]
      match i, hi, h1, this with
      | 19, _, _, h2 => exact h2
      | 20, _, _, h2 => exact h2
      | 21, _, _, h2 => exact h2
      | 22, _, _, h2 => exact h2
      | 23, _, _, h2 => obtain ⟨_, _, _, _, _, h3⟩ := h2; exact h3
      | 24, _, _, h2 => obtain ⟨_, _, _, _, _, h3⟩ := h2; exact h3
      | n + 25, hi, _, _ => omega
theorem pb_fci {vm : Vm} {n1 n2 : String} {c : ClassId} (h1 : vm.findClass n1 = some c) (h2 : vm.findClass n2 = some c) : n1 = n2 := by
  obtain ⟨k1, a1, b1⟩ := Vm.findClass_spec h1
  obtain ⟨k2, a2, b2⟩ := Vm.findClass_spec h2
  cases a1.symm.trans a2
  exact b1.symm.trans b2
def pb_I (w : pb_W) : Prop := ∀ i j, i < 25 → j < 25 → i ≠ j → pb_cid w i ≠ pb_cid w j
theorem pb_K.inj {w : pb_W} {s : State} (h : pb_K w s) : pb_I w := by
  intro i j hi hj hne e
  obtain ⟨n1, a1, b1⟩ := pb_nm_at h ⟨i, hi⟩
  obtain ⟨n2, a2, b2⟩ := pb_nm_at h ⟨j, hj⟩
  have e1 : n1 = n2 := pb_fci b1 (by rw [b2]; exact congrArg some e.symm)
  exact pb_nms_ne ⟨i, hi⟩ ⟨j, hj⟩ (fun z => hne (congrArg (fun q : Fin 25 => q.val) z)) (a1.trans (e1 ▸ a2.symm))
theorem pb_C.inj {w : pb_W} {p : Program} {s : State} {m : MethodId} {meth : Method} {c : Code} {args : Array Value} {cc : ByteArray} {nL : Nat} {own nm : String} {ret : Option FieldType} (C : pb_C w p s m meth c args cc nL own nm ret) : pb_I w := C.2.2.2.2.2.2.2.2.inj
/-- a cell of class k lies here -/
def pb_Ty (w : pb_W) (H : Heap) (a k : Nat) : Prop := ∃ cell : Cell, H[a]? = some cell ∧ cell.cls = pb_cid w k
theorem pb_R.ty {w : pb_W} {H : Heap} {a ci : Nat} {fs : List Value} (h : pb_R w H a ci fs) : pb_Ty w H a ci ∧ ci < 19 := by
  obtain ⟨r, cell, h1, h2, h3, -⟩ := h
  have hl : ci < 19 := (List.getElem?_eq_some_iff.mp h1).1
  exact ⟨⟨cell, h2, by rw [h3, pb_cid, if_pos hl]⟩, hl⟩
theorem pb_B.ty {w : pb_W} {H : Heap} {a t n : Nat} {g : Nat → Value} (h : pb_B w H a t n g) : pb_Ty w H a (19 + t) := by
  obtain ⟨cell, h2, h3, -⟩ := h
  exact ⟨cell, h2, by rw [h3, pb_cid, if_neg (by omega), show 19 + t - 19 = t by omega]⟩
theorem pb_Ty.ne {w : pb_W} {H : Heap} {a b i j : Nat} (hI : pb_I w) (h : pb_Ty w H a i) (h2 : pb_Ty w H b j) (hi : i < 25) (hj : j < 25) (hn : i ≠ j) : a ≠ b := by
  intro e
  subst e
  obtain ⟨c1, x1, y1⟩ := h
  obtain ⟨c2, x2, y2⟩ := h2
  rw [x1] at x2
  cases x2
  exact hI i j hi hj hn (y1.symm.trans y2)
/-! spans -/
def rgE (E : List Int) : Prop := ∀ x, x ∈ E → -1000 ≤ x ∧ x ≤ 1000
def lastE (E : List Int) : Int := E.getLast?.getD 0
theorem agr_at {f : Nat → Int} {E : List Int} (h : agr f E) (hr : rgE E) {i : Nat} (hi : i < E.length) : -1000 ≤ f i ∧ f i ≤ 1000 := by
  rw [h i hi]; exact hr _ (List.getElem_mem hi)
theorem agr_last {f : Nat → Int} {E : List Int} (h : agr f E) (hn : 0 < E.length) : f (E.length - 1) = lastE E := by
  rw [h _ (by omega), lastE, List.getLast?_eq_getElem?, List.getElem?_eq_getElem (by omega)]; rfl
theorem agr_set {f : Nat → Int} {E : List Int} (h : agr f E) (hn : 0 < E.length) (v : Int) : agr (va_up f (E.length - 1) v) (E.dropLast ++ [v]) := by
  intro i hi
  have hl : E.dropLast.length = E.length - 1 := List.length_dropLast
  unfold va_up
  by_cases e : i = E.length - 1
  · subst e
    rw [if_pos rfl, List.getElem_append_right (by omega)]
    simp [hl]
  · rw [if_neg e, List.getElem_append_left (by rw [List.length_append] at hi; simp at hi; omega), List.getElem_dropLast]
    exact h i _
theorem len_set {E : List Int} (hn : 0 < E.length) (v : Int) : (E.dropLast ++ [v]).length = E.length := by
  rw [List.length_append, List.length_dropLast]; simp; omega
theorem rgE_set {E : List Int} (h : rgE E) {v : Int} (hv : -1000 ≤ v ∧ v ≤ 1000) : rgE (E.dropLast ++ [v]) := by
  intro x hx
  rcases List.mem_append.mp hx with z | z
  · exact h x (List.dropLast_subset E z)
  · rw [List.mem_singleton.mp z]; exact hv
theorem rgE_app {E : List Int} (h : rgE E) {l r : Int} (hl : -1000 ≤ l ∧ l ≤ 1000) (hr : -1000 ≤ r ∧ r ≤ 1000) : rgE (E ++ [l, r]) := by
  intro x hx
  rcases List.mem_append.mp hx with z | z
  · exact h x z
  · rcases List.mem_cons.mp z with z | z
    · rw [z]; exact hl
    · rw [List.mem_singleton.mp z]; exact hr
theorem agr_app {f : Nat → Int} {E : List Int} (h : agr f E) (l r : Int) : agr (va_up (va_up f E.length l) (E.length + 1) r) (E ++ [l, r]) := by
  have h1 := agr_up h rfl l
  have h2 := agr_up h1 (n := E.length + 1) (by rw [List.length_append]; rfl) r
  rw [List.append_assoc] at h2
  exact h2
/-- a row of spans that is read only: its cells satisfy P -/
def Sp (w : pb_W) (H : Heap) (P : Nat → Prop) (a : Nat) (E : List Int) : Prop := ∃ (e m : Nat) (f : Nat → Int), P a ∧ P e ∧ pb_R w H a 3 [.ref e, .int (iZ ((E.length : Nat) : Int))] ∧ pb_B w H e 0 m (pb_zf f) ∧ agr f E ∧ E.length ≤ m ∧ rgE E ∧ m ≤ 64
/-- a row of spans under construction: its cells are z and above -/
def Sb (w : pb_W) (H : Heap) (z a : Nat) (E : List Int) (m : Nat) : Prop := ∃ (e : Nat) (f : Nat → Int), z ≤ a ∧ z ≤ e ∧ a ≠ e ∧ pb_O w H a 3 [.ref e, .int (iZ ((E.length : Nat) : Int))] ∧ pb_A w H e 0 m (pb_zf f) ∧ agr f E ∧ E.length ≤ m ∧ rgE E ∧ (m = 8 ∨ m = 16 ∨ m = 32 ∨ m = 64) ∧ E.length % 2 = 0
theorem Sp.kept {w : pb_W} {H H1 : Heap} {P : Nat → Prop} {a : Nat} {E : List Int} (h : Sp w H P a E) (f : pb_F P H H1) : Sp w H1 P a E := by
  obtain ⟨e, m, g, h1, h2, h3, h4, h5⟩ := h
  exact ⟨e, m, g, h1, h2, h3.kept (f.2 _ h3.lt h1), h4.kept (f.2 _ h4.lt h2), h5⟩
theorem Sp.mono {w : pb_W} {H : Heap} {P P' : Nat → Prop} {a : Nat} {E : List Int} (h : Sp w H P a E) (hp : ∀ q, q < H.size → P q → P' q) : Sp w H P' a E := by
  obtain ⟨e, m, g, h1, h2, h3, h4, h5⟩ := h
  exact ⟨e, m, g, hp _ h3.lt h1, hp _ h4.lt h2, h3, h4, h5⟩
theorem Sb.sp {w : pb_W} {H : Heap} {z a m : Nat} {E : List Int} (h : Sb w H z a E m) : Sp w H (fun q => z ≤ q ∧ q < H.size) a E := by
  obtain ⟨e, f, h1, h2, h3, h4, h5, h6, h7, h8, h9, -⟩ := h
  exact ⟨e, m, f, ⟨h1, h4.lt⟩, ⟨h2, h5.lt⟩, h4.r, h5.b, h6, h7, h8, by omega⟩
theorem Sb.zlt {w : pb_W} {H : Heap} {z a m : Nat} {E : List Int} (h : Sb w H z a E m) : z < H.size := by
  obtain ⟨e, f, h1, h2, h3, h4, -⟩ := h
  have := h4.lt
  omega
theorem Sb.low {w : pb_W} {H : Heap} {z z2 a m : Nat} {E : List Int} (h : Sb w H z a E m) (hz : z2 ≤ z) : Sb w H z2 a E m := by
  obtain ⟨e, f, h1, h2, h3⟩ := h
  exact ⟨e, f, by omega, by omega, h3⟩
/-- a span added -/
abbrev spJ (E : List Int) (l : Int) : Prop := 0 < E.length ∧ l ≤ lastE E
def spadd (E : List Int) (l r : Int) : List Int := if r ≤ l then E else if spJ E l then E.dropLast ++ [max (lastE E) r] else E ++ [l, r]
/-- whether the array grows -/
abbrev spG (E : List Int) (l r : Int) (m : Nat) : Prop := l < r ∧ ¬ spJ E l ∧ E.length = m
def spm (E : List Int) (l r : Int) (m : Nat) : Nat := if spG E l r m then 2 * m else m
def spc (E : List Int) (l r : Int) (m : Nat) : Nat := if spG E l r m then 1 else 0
def sps (E : List Int) (l r : Int) (m : Nat) : Nat := if spG E l r m then 2 * m else 0
/-- what pays for all growth -/
def pot (m : Nat) : Nat := 128 - 2 * m
def potc (m : Nat) : Nat := if m < 16 then 3 else if m < 32 then 2 else if m < 64 then 1 else 0
theorem sp_pot {E : List Int} {l r : Int} {m : Nat} (hm : m = 8 ∨ m = 16 ∨ m = 32 ∨ m = 64) (h : (spadd E l r).length ≤ 64) : sps E l r m + pot (spm E l r m) = pot m ∧ spc E l r m + potc (spm E l r m) = potc m ∧ (spm E l r m = 8 ∨ spm E l r m = 16 ∨ spm E l r m = 32 ∨ spm E l r m = 64) := by
  unfold sps spm spc
  by_cases hg : spG E l r m
  · rw [if_pos hg, if_pos hg, if_pos hg]
    unfold spadd at h
    rw [if_neg (by omega), if_neg hg.2.1, List.length_append] at h
    have h3 := hg.2.2
    have h4 : [l, r].length = 2 := rfl
    rcases hm with e | e | e | e <;> subst e
    · exact ⟨rfl, rfl, by omega⟩
    · exact ⟨rfl, rfl, by omega⟩
    · exact ⟨rfl, rfl, by omega⟩
    · omega
  · rw [if_neg hg, if_neg hg, if_neg hg]
    exact ⟨by omega, by omega, hm⟩
theorem Sp.o {w : pb_W} {H : Heap} {P : Nat → Prop} {a : Nat} {E : List Int} (h : Sp w H P a E) : ∃ fs, pb_R w H a 3 fs := by
  obtain ⟨e, m, g, h1, h2, h3, h4⟩ := h
  exact ⟨_, h3⟩
theorem Sb.o {w : pb_W} {H : Heap} {z a m : Nat} {E : List Int} (h : Sb w H z a E m) : ∃ fs, pb_R w H a 3 fs := by
  obtain ⟨e, f, h1, h2, h3, h4, h5⟩ := h
  exact ⟨_, h4.r⟩
def eE (E : List Int) (i : Nat) : Int := E.getD i 0
theorem eE_at {f : Nat → Int} {E : List Int} (h : agr f E) {i : Nat} (hi : i < E.length) : f i = eE E i := by
  rw [h i hi, eE, List.getD_eq_getElem?_getD, List.getElem?_eq_getElem hi]; rfl
theorem eE_rg {E : List Int} (h : rgE E) {i : Nat} : -1000 ≤ eE E i ∧ eE E i ≤ 1000 := by
  unfold eE
  rw [List.getD_eq_getElem?_getD]
  by_cases hi : i < E.length
  · rw [List.getElem?_eq_getElem hi]; exact h _ (List.getElem_mem hi)
  · rw [List.getElem?_eq_none (by omega)]; decide
/-- the whole length -/
def lenE (E : List Int) : Nat → Int
  | 0 => 0
  | k + 1 => lenE E k + (eE E (2 * k + 1) - eE E (2 * k))
theorem lenE_rg {E : List Int} (h : rgE E) (k : Nat) : -(2000 * (k : Int)) ≤ lenE E k ∧ lenE E k ≤ 2000 * (k : Int) := by
  induction k with
  | zero => simp [lenE]
  | succ k ih => have := eE_rg h (i := 2 * k + 1); have := eE_rg h (i := 2 * k); rw [lenE]; omega
def inE (E : List Int) (x : Int) : Nat → Bool
  | 0 => false
  | k + 1 => inE E x k || decide (eE E (2 * k) ≤ x ∧ x ≤ eE E (2 * k + 1) - 1)
/-- whether the first ends are the same -/
def smE (E F : List Int) : Nat → Bool
  | 0 => decide (E.length = F.length)
  | k + 1 => smE E F k && decide (eE E k = eE F k)
theorem smE_f {E F : List Int} {k : Nat} (h : smE E F k = false) (j : Nat) : smE E F (k + j) = false := by
  induction j with
  | zero => exact h
  | succ j ih => rw [← Nat.add_assoc, smE, ih]; rfl
theorem smE_len {E F : List Int} {k : Nat} (h : smE E F k = true) : E.length = F.length := by
  induction k with
  | zero => simpa [smE] using h
  | succ k ih => rw [smE, Bool.and_eq_true] at h; exact ih h.1
theorem smE_eq (E F : List Int) : smE E F E.length = decide (E = F) := by
  have h1 : ∀ k, k ≤ E.length → (smE E F k = true ↔ E.length = F.length ∧ ∀ i, i < k → eE E i = eE F i) := by
    intro k
    induction k with
    | zero => intro _; simp [smE]
    | succ k ih =>
      intro hk
      rw [smE, Bool.and_eq_true, ih (by omega), decide_eq_true_eq]
      constructor
      · rintro ⟨⟨a, b⟩, c⟩
        refine ⟨a, fun i hi => ?_⟩
        by_cases e : i = k
        · subst e; exact c
        · exact b i (by omega)
      · rintro ⟨a, b⟩
        exact ⟨⟨a, fun i hi => b i (by omega)⟩, b k (by omega)⟩
  have h2 : (smE E F E.length = true) ↔ E = F := by
    rw [h1 _ (Nat.le_refl _)]
    constructor
    · rintro ⟨a, b⟩
      apply List.ext_getElem a
      intro i h3 h4
      have := b i h3
      unfold eE at this
      rw [List.getD_eq_getElem?_getD, List.getD_eq_getElem?_getD, List.getElem?_eq_getElem h3, List.getElem?_eq_getElem h4] at this
      exact this
    · rintro rfl; exact ⟨rfl, fun _ _ => rfl⟩
  by_cases e : E = F
  · rw [decide_eq_true e]; exact h2.mpr e
  · rw [decide_eq_false e]
    cases h9 : smE E F E.length
    · rfl
    · exact absurd (h2.mp h9) e
section PBM2
variable {zs : Nat} {p : Program} {l : Launch} {e : Env} {R : Room} {s : State} {m : MethodId} {args : Array Value} {below : List Frame} {meth : Method} {c : Code} {H : Heap} {bc bs : Nat} {Q : State → Prop}
variable {w : pb_W} {cc : ByteArray} {nL : Nat} {own nm : String} {ret : Option FieldType} {pc : Nat} {ls : Array Slot} {rest : List Value}
theorem pb_mmax (C : pb_C w p s m meth c args cc nL own nm ret) {i : Nat} {x y : Int} (hlink : Cond.methodLink own i Lib.Math.max.name ∈ lw_all) (hstat : Cond.static Lib.Math.max.name ∈ lw_all) (hini : Cond.initialized "java/lang/Math" ∈ lw_all) (hcode : Cond.code Lib.Math.max.name Lib.Math.max.code 2 (some .int) ∈ lw_all) (hls : ls.size = nL) (hR : 1 ≤ R.frames ∧ (rest.map fun v => v.category).sum + 13 ≤ R.locals) (hx : -2147483648 ≤ x ∧ x ≤ 2147483647) (hy : -2147483648 ≤ y ∧ y ≤ 2147483647) (hdg : decode cc pc = .ok (.invokestatic i, 3))
    (k : pb_V zs p l e R s m args below meth c H bc bs Q (F0 m (pc + 3) ls (.int (iZ (max x y)) :: rest))) : pb_V zs p l e R s m args below meth c H bc bs Q (F0 m pc ls (.int (iZ y) :: .int (iZ x) :: rest)) := by
  intro locs cells slots a b d
  refine va_mmax C.1 C.2.1 (C.2.2.1.trans hls.symm) C.2.2.2.1 (C.2.2.2.2.1 _ hlink) (C.2.2.2.2.1 _ hstat) (C.2.2.2.2.1 _ hini) (C.2.2.2.2.1 _ hcode) hR.1 hR.2 (by omega) (by omega) hdg ?_
  have h : (if iZ x < iZ y then iZ y else iZ x) = iZ (max x y) := by
    by_cases h : x < y
    · rw [if_pos ((iZ_lt hx hy).mpr h), show max x y = y by omega]
    · rw [if_neg (fun z => h ((iZ_lt hx hy).mp z)), show max x y = x by omega]
  rw [h]
  exact k locs cells slots a b d
theorem pb_mmin (C : pb_C w p s m meth c args cc nL own nm ret) {i : Nat} {x y : Int} (hlink : Cond.methodLink own i Lib.Math.min.name ∈ lw_all) (hstat : Cond.static Lib.Math.min.name ∈ lw_all) (hini : Cond.initialized "java/lang/Math" ∈ lw_all) (hcode : Cond.code Lib.Math.min.name Lib.Math.min.code 2 (some .int) ∈ lw_all) (hls : ls.size = nL) (hR : 1 ≤ R.frames ∧ (rest.map fun v => v.category).sum + 13 ≤ R.locals) (hx : -2147483648 ≤ x ∧ x ≤ 2147483647) (hy : -2147483648 ≤ y ∧ y ≤ 2147483647) (hdg : decode cc pc = .ok (.invokestatic i, 3))
    (k : pb_V zs p l e R s m args below meth c H bc bs Q (F0 m (pc + 3) ls (.int (iZ (min x y)) :: rest))) : pb_V zs p l e R s m args below meth c H bc bs Q (F0 m pc ls (.int (iZ y) :: .int (iZ x) :: rest)) := by
  intro locs cells slots a b d
  refine va_mmin C.1 C.2.1 (C.2.2.1.trans hls.symm) C.2.2.2.1 (C.2.2.2.2.1 _ hlink) (C.2.2.2.2.1 _ hstat) (C.2.2.2.2.1 _ hini) (C.2.2.2.2.1 _ hcode) hR.1 hR.2 (by omega) (by omega) hdg ?_
  have h : (if iZ y < iZ x then iZ y else iZ x) = iZ (min x y) := by
    by_cases h : y < x
    · rw [if_pos ((iZ_lt hy hx).mpr h), show min x y = y by omega]
    · rw [if_neg (fun z => h ((iZ_lt hy hx).mp z)), show min x y = x by omega]
  rw [h]
  exact k locs cells slots a b d
end PBM2
