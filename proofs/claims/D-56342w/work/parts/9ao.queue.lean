set_option maxRecDepth 100000
/-! the queue of a search -/
def nnF (F : Nat → Int) (n : Nat) : Nat := sm (fun k => if F k = -1 then 1 else 0) n
theorem nnF_up {F : Nat → Int} {k : Nat} {v : Int} (hF : F k = -1) (hv : v ≠ -1) : ∀ n, nnF (va_up F k v) n + (if k < n then 1 else 0) = nnF F n := by
  intro n
  induction n with
  | zero => rw [if_neg (Nat.not_lt_zero k)]; rfl
  | succ n ih =>
    unfold nnF at ih ⊢
    rw [sm, sm]
    by_cases c : k = n
    · subst c
      rw [if_neg (Nat.lt_irrefl k)] at ih
      rw [if_pos (Nat.lt_succ_self k)]
      have h1 : va_up F k v k = v := by unfold va_up; rw [if_pos rfl]
      rw [h1, if_neg hv, if_pos hF]
      omega
    · have h1 : va_up F k v n = F n := by unfold va_up; rw [if_neg (fun e => c e.symm)]
      rw [h1]
      by_cases c2 : k < n
      · rw [if_pos c2] at ih; rw [if_pos (show k < n + 1 from by omega)]; omega
      · rw [if_neg c2] at ih; rw [if_neg (show ¬ k < n + 1 from by omega)]; omega
theorem nnF_le (F : Nat → Int) (n : Nat) : nnF F n ≤ n := by
  unfold nnF
  induction n with
  | zero => exact Nat.le_refl _
  | succ n ih => rw [sm]; split <;> omega
theorem nnF_0 {a : Nat} (ha : a < 576) : nnF (fun k => if k = a then 0 else -1) 576 = 575 := by
  have h1 := nnF_up (F := fun _ => -1) (k := a) (v := 0) rfl (by decide) 576
  rw [if_pos ha] at h1
  have h2 : va_up (fun _ => (-1 : Int)) a 0 = fun k => if k = a then 0 else -1 := by funext k; rfl
  rw [h2] at h1
  have h3 : nnF (fun _ => (-1 : Int)) 576 = 576 := by decide +kernel
  omega
theorem Bxl.app {w : pb_W} {H : Heap} {b k : Nat} : ∀ {R S : List Nat}, Bxl w H R S → Bx w H b ((k : Nat) : Int) → Bxl w H (R ++ [b]) (S ++ [k])
  | [], [], _, hb => ⟨hb, trivial⟩
  | _ :: _, _ :: _, h, hb => ⟨h.1, Bxl.app h.2 hb⟩
  | [], _ :: _, h, _ => h.elim
  | _ :: _, [], h, _ => h.elim
theorem Bxl.len {w : pb_W} {H : Heap} : ∀ {R S : List Nat}, Bxl w H R S → R.length = S.length
  | [], [], _ => rfl
  | _ :: _, _ :: _, h => by rw [List.length_cons, List.length_cons, Bxl.len h.2]
  | [], _ :: _, h => h.elim
  | _ :: _, [], h => h.elim
theorem Bxl.el2 {w : pb_W} {H : Heap} {R S : List Nat} (h : Bxl w H R S) (hI : pb_I w) {z d e m k : Nat} {V : List Nat} (hD : Dq w H z d e m k V) : ∀ x ∈ R, pb_El w H x ∧ x ≠ d ∧ x ≠ e := fun x hx => by
  obtain ⟨y, hy⟩ := h.at hx
  exact ⟨hy.El, hy.ne hI hD⟩
/-- a cell in the queue's step: nothing new, or a new one -/
theorem bqD_no {g : Nat → Nat} {c d : Nat} {F : Nat → Int} {Q : List Nat} {x y : Int} (hx : x = ((c % 24 : Nat) : Int) + stX d) (hy : y = ((c / 24 : Nat) : Int) + stY d) (h : ¬ (gcI g x y = true ∧ F (24 * y + x).toNat = -1)) : bqD g c (F, Q) d = (F, Q) := by
  subst hx; subst hy
  exact if_neg h
theorem bqD_yes {g : Nat → Nat} {c d : Nat} {F : Nat → Int} {Q : List Nat} {x y : Int} (hx : x = ((c % 24 : Nat) : Int) + stX d) (hy : y = ((c / 24 : Nat) : Int) + stY d) (h : gcI g x y = true ∧ F (24 * y + x).toNat = -1) : bqD g c (F, Q) d = (va_up F (24 * y + x).toNat (F c + 1), Q ++ [(24 * y + x).toNat]) := by
  subst hx; subst hy
  exact if_pos h
/-- what the walk keeps of the search: rounds, ranges, the room that is left -/
def bqK (F : Nat → Int) (Q : List Nat) (n d p : Nat) : Prop := (∀ k, -1 ≤ F k ∧ F k ≤ ((4 * n + d : Nat) : Int)) ∧ (∀ k ∈ Q, k < 576 ∧ 0 ≤ F k) ∧ p + nnF F 576 + Q.length ≤ 576
theorem bqK_0 {a : Nat} (ha : a < 576) : bqK (fun k => if k = a then 0 else -1) [a] 0 0 0 := by
  refine ⟨fun k => ?_, fun k hk => ?_, ?_⟩
  · dsimp only; split <;> omega
  · rw [List.mem_singleton] at hk; subst hk; exact ⟨ha, by show 0 ≤ (if k = k then (0 : Int) else -1); rw [if_pos rfl]; decide⟩
  · rw [nnF_0 ha]; show 0 + 575 + 1 ≤ 576; decide
theorem bqK_pop {F : Nat → Int} {Q : List Nat} {n c : Nat} (h : bqK F (c :: Q) n 0 n) : bqK F Q n 0 (n + 1) ∧ c < 576 ∧ 0 ≤ F c := by
  obtain ⟨h1, h2, h3⟩ := h
  rw [List.length_cons] at h3
  exact ⟨⟨h1, fun k hk => h2 k (List.mem_cons_of_mem _ hk), by omega⟩, h2 c List.mem_cons_self⟩
theorem bqK_end {F : Nat → Int} {Q : List Nat} {n d : Nat} (h : bqK F Q n d (n + 1)) (hd : d ≤ 4) : bqK F Q (n + 1) 0 (n + 1) := ⟨fun k => by have := h.1 k; omega, h.2⟩
theorem bqK_no {F : Nat → Int} {Q : List Nat} {n d p : Nat} (h : bqK F Q n d p) : bqK F Q n (d + 1) p := ⟨fun k => by have := h.1 k; omega, h.2⟩
theorem bqK_yes {F : Nat → Int} {Q : List Nat} {n d c k p : Nat} (h : bqK F Q n d p) (hk : k < 576) (hF : F k = -1) (hc : 0 ≤ F c) : bqK (va_up F k (F c + 1)) (Q ++ [k]) n (d + 1) p := by
  obtain ⟨h1, h2, h3⟩ := h
  refine ⟨fun j => ?_, fun j hj => ?_, ?_⟩
  · unfold va_up
    have := h1 j
    have := h1 c
    split <;> omega
  · rw [List.mem_append, List.mem_singleton] at hj
    rcases hj with hj | hj
    · have h5 := h2 j hj
      refine ⟨h5.1, ?_⟩
      unfold va_up
      split <;> omega
    · subst hj
      refine ⟨hk, ?_⟩
      unfold va_up
      rw [if_pos rfl]; omega
  · have h4 := nnF_up (v := F c + 1) hF (by omega) 576
    rw [if_pos hk] at h4
    rw [List.length_append, List.length_singleton]
    omega
theorem stX_rg (d : Nat) : -1 ≤ stX d ∧ stX d ≤ 1 := by unfold stX; split; omega; split <;> omega
theorem stY_rg (d : Nat) : -1 ≤ stY d ∧ stY d ≤ 1 := by unfold stY; split; omega; split <;> omega
theorem gcI_in {g : Nat → Nat} {x y : Int} (h : gcI g x y = true) : (0 ≤ x ∧ x ≤ 23) ∧ 0 ≤ y ∧ y ≤ 23 := by
  unfold gcI at h
  rw [Bool.and_eq_true, Bool.and_eq_true, decide_eq_true_iff, decide_eq_true_iff] at h
  exact h.1
theorem up_eq {A F : Nat → Int} {k : Nat} {v u : Int} (h : ∀ j, j < 576 → A j = F j) (hv : v = u) : ∀ j, j < 576 → va_up A k v j = va_up F k u j := fun j hj => by
  subst hv
  unfold va_up
  split
  · rfl
  · exact h j hj
theorem fil_eq {a j : Nat} (hj : 576 ≤ j) : ∀ k, k < 576 → va_up (mdZ (fun _ => (-1 : Int)) (fun _ => 0) j) a 0 k = (fun k => if k = a then (0 : Int) else -1) k := fun k hk => by
  unfold va_up mdZ
  dsimp only
  by_cases c : k = a
  · rw [if_pos c, if_pos c]
  · rw [if_neg c, if_neg c, if_pos (by omega)]
