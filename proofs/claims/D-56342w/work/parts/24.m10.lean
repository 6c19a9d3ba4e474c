set_option maxRecDepth 100000
set_option maxHeartbeats 1000000 in
theorem met_X3_steps {w : pb_W} (l : Launch) {H0 : Heap} (o : Nat) (S : mS) (hM : MW w H0 o S) (s : Nat) (hs : s < 8) (hb : mok S) (a b c d : Nat) (ha : a < 24) (hb1 : b < 24) (hc : c < 24) (hd : d < 24) (hf : (mg S s b).testBit a = true) (ht : (mg S s d).testBit c = true) : pb_M w l yX3_steps cX3_steps 12 (some .int) 6 (0) (0) [.ref (o), .int (iZ (((s : Nat) : Int))), .int (iZ (((a : Nat) : Int))), .int (iZ (((b : Nat) : Int))), .int (iZ (((c : Nat) : Int))), .int (iZ (((d : Nat) : Int)))] H0 (pb_qi (fun z H1 => ∃ n : Nat, ((0 ≤ (bfs (mg S s) (24 * b + a) (S.2.2 2) n) (24 * d + c) ∧ z = (bfs (mg S s) (24 * b + a) (S.2.2 2) n) (24 * d + c) ∧ MW w H1 o (mC (mI S 0 0) 2 (bfs (mg S s) (24 * b + a) (S.2.2 2) n))) ∨ (bfs (mg S s) (24 * b + a) (S.2.2 2) (n + 1) = (bfs (mg S s) (24 * b + a) (S.2.2 2) n) ∧ (bfs (mg S s) (24 * b + a) (S.2.2 2) n) (24 * d + c) < 0 ∧ z = 0 ∧ MW w H1 o (mI (mC (mI S 0 0) 2 (bfs (mg S s) (24 * b + a) (S.2.2 2) n)) 0 3))) ∧ mF o H0 H1)) := by
  refine pb_of (by decide +kernel) (Nat.le_of_ble_eq_true rfl) ?_
  intro p_ e_ s_ m_ ar_ bl_ me_ co_ ls C hh hG hl
  have hl : lv_has ls 12 [(0, .ref (o)), (1, .int (iZ (((s : Nat) : Int)))), (2, .int (iZ (((a : Nat) : Int)))), (3, .int (iZ (((b : Nat) : Int)))), (4, .int (iZ (((c : Nat) : Int)))), (5, .int (iZ (((d : Nat) : Int))))] := hl
  have hM0 := hM; obtain ⟨hz, hO, hA1, hA2, hA3, hA4, hA5, hA6, hA7, hA8, hA9, hA10, hA11, hA12⟩ := hM0
  have hF : mF o H0 H0 := mF.rf
  have L116 : ∀ (n_ : Nat) (n : Nat) (m : Bool) (H : Heap), 577 - n = n_ → (pb_G w s_ H) → (MW w H o (mC (mI S 0 0) 2 (bfs (mg S s) (24 * b + a) (S.2.2 2) n))) → (mF o H0 H) → (n + nneg (bfs (mg S s) (24 * b + a) (S.2.2 2) n) + (bI m).toNat ≤ 576) → (m = false → bfs (mg S s) (24 * b + a) (S.2.2 2) (n + 1) = (bfs (mg S s) (24 * b + a) (S.2.2 2) n)) → ∀ (ls : Array Slot), lv_has ls 12 [(0, .ref (o)), (1, .int (iZ (((s : Nat) : Int)))), (2, .int (iZ (((a : Nat) : Int)))), (3, .int (iZ (((b : Nat) : Int)))), (4, .int (iZ (((c : Nat) : Int)))), (5, .int (iZ (((d : Nat) : Int)))), (6, .int (iZ (((n : Nat) : Int)))), (7, .int (iZ ((bI (m)))))] → pb_V w.2.2.2 p_ l e_ (pb_rm 6 (0) (0)) s_ m_ ar_ bl_ me_ co_ H (0) (0) (pb_E w bl_ ar_ s_ (0) (0) (pb_qi (fun z H1 => ∃ n : Nat, ((0 ≤ (bfs (mg S s) (24 * b + a) (S.2.2 2) n) (24 * d + c) ∧ z = (bfs (mg S s) (24 * b + a) (S.2.2 2) n) (24 * d + c) ∧ MW w H1 o (mC (mI S 0 0) 2 (bfs (mg S s) (24 * b + a) (S.2.2 2) n))) ∨ (bfs (mg S s) (24 * b + a) (S.2.2 2) (n + 1) = (bfs (mg S s) (24 * b + a) (S.2.2 2) n) ∧ (bfs (mg S s) (24 * b + a) (S.2.2 2) n) (24 * d + c) < 0 ∧ z = 0 ∧ MW w H1 o (mI (mC (mI S 0 0) 2 (bfs (mg S s) (24 * b + a) (S.2.2 2) n)) 0 3))) ∧ mF o H0 H1))) (F0 m_ 116 ls []) := by
    intro n_
    induction n_ using Nat.strongRecOn with
    | _ n_ ih116 =>
    intro n m H hm_ hG hM hF hn hst ls hl
    have hM0 := hM; obtain ⟨hz, hO, hA1, hA2, hA3, hA4, hA5, hA6, hA7, hA8, hA9, hA10, hA11, hA12⟩ := hM0
    have hO : pb_O w H o 2 [.int (iZ ((0))), .int (iZ ((S.1 1))), .ref (o + 1), .ref (o + 2), .ref (o + 3), .ref (o + 4), .ref (o + 5), .ref (o + 6), .ref (o + 7), .ref (o + 8), .ref (o + 9), .ref (o + 10), .ref (o + 11), .ref (o + 12), .int (iZ ((S.1 2))), .int (iZ ((S.1 3)))] := hO
    have hA1 : pb_A w H (o + 1) 0 192 (pb_nf (S.2.1 0)) := hA1
    have hA2 : pb_A w H (o + 2) 0 24 (pb_nf (S.2.1 1)) := hA2
    have hA3 : pb_A w H (o + 3) 0 26 (pb_nf (S.2.1 2)) := hA3
    have hA4 : pb_A w H (o + 4) 0 26 (pb_nf (S.2.1 3)) := hA4
    have hA5 : pb_A w H (o + 5) 0 40 (pb_zf (S.2.2 0)) := hA5
    have hA6 : pb_A w H (o + 6) 0 40 (pb_zf (S.2.2 1)) := hA6
    have hA7 : pb_A w H (o + 7) 0 576 (pb_zf ((bfs (mg S s) (24 * b + a) (S.2.2 2) n))) := hA7
    have hA8 : pb_A w H (o + 8) 0 1300 (pb_zf (S.2.2 3)) := hA8
    have hA9 : pb_A w H (o + 9) 0 1300 (pb_zf (S.2.2 4)) := hA9
    have hA10 : pb_A w H (o + 10) 0 400 (pb_zf (S.2.2 5)) := hA10
    have hA11 : pb_A w H (o + 11) 0 400 (pb_zf (S.2.2 6)) := hA11
    have hA12 : pb_A w H (o + 12) 0 625 (pb_nf (S.2.1 4)) := hA12
    have hrg := bfs_rng (mg S s) (24 * b + a) (S.2.2 2) n (24 * d + c) (by omega)
    have L143 : ∀ (n_ : Nat) (k : Nat) (m1 : Bool) (H : Heap), 576 - k = n_ → (pb_G w s_ H) → (MW w H o (mC (mI S 0 0) 2 (mdZ (stp (mg S s) n (bfs (mg S s) (24 * b + a) (S.2.2 2) n)) (bfs (mg S s) (24 * b + a) (S.2.2 2) n) k))) → (mF o H0 H) → (n ≤ 575) → (n + nneg (bfs (mg S s) (24 * b + a) (S.2.2 2) n) ≤ 575) → (k ≤ 576) → (stM (mg S s) n (bfs (mg S s) (24 * b + a) (S.2.2 2) n) k m1) → ∀ (ls : Array Slot), lv_has ls 12 [(0, .ref (o)), (1, .int (iZ (((s : Nat) : Int)))), (2, .int (iZ (((a : Nat) : Int)))), (3, .int (iZ (((b : Nat) : Int)))), (4, .int (iZ (((c : Nat) : Int)))), (5, .int (iZ (((d : Nat) : Int)))), (6, .int (iZ (((n : Nat) : Int)))), (7, .int (iZ ((bI (m1))))), (8, .int (iZ (((k : Nat) : Int))))] → pb_V w.2.2.2 p_ l e_ (pb_rm 6 (0) (0)) s_ m_ ar_ bl_ me_ co_ H (0) (0) (pb_E w bl_ ar_ s_ (0) (0) (pb_qi (fun z H1 => ∃ n : Nat, ((0 ≤ (bfs (mg S s) (24 * b + a) (S.2.2 2) n) (24 * d + c) ∧ z = (bfs (mg S s) (24 * b + a) (S.2.2 2) n) (24 * d + c) ∧ MW w H1 o (mC (mI S 0 0) 2 (bfs (mg S s) (24 * b + a) (S.2.2 2) n))) ∨ (bfs (mg S s) (24 * b + a) (S.2.2 2) (n + 1) = (bfs (mg S s) (24 * b + a) (S.2.2 2) n) ∧ (bfs (mg S s) (24 * b + a) (S.2.2 2) n) (24 * d + c) < 0 ∧ z = 0 ∧ MW w H1 o (mI (mC (mI S 0 0) 2 (bfs (mg S s) (24 * b + a) (S.2.2 2) n)) 0 3))) ∧ mF o H0 H1))) (F0 m_ 143 ls []) := by
      intro n_
      induction n_ using Nat.strongRecOn with
      | _ n_ ih143 =>
      intro k m1 H hm_ hG hM hF hn0 hnn hk hmm ls hl
      have hM0 := hM; obtain ⟨hz, hO, hA1, hA2, hA3, hA4, hA5, hA6, hA7, hA8, hA9, hA10, hA11, hA12⟩ := hM0
      have hO : pb_O w H o 2 [.int (iZ ((0))), .int (iZ ((S.1 1))), .ref (o + 1), .ref (o + 2), .ref (o + 3), .ref (o + 4), .ref (o + 5), .ref (o + 6), .ref (o + 7), .ref (o + 8), .ref (o + 9), .ref (o + 10), .ref (o + 11), .ref (o + 12), .int (iZ ((S.1 2))), .int (iZ ((S.1 3)))] := hO
      have hA1 : pb_A w H (o + 1) 0 192 (pb_nf (S.2.1 0)) := hA1
      have hA2 : pb_A w H (o + 2) 0 24 (pb_nf (S.2.1 1)) := hA2
      have hA3 : pb_A w H (o + 3) 0 26 (pb_nf (S.2.1 2)) := hA3
      have hA4 : pb_A w H (o + 4) 0 26 (pb_nf (S.2.1 3)) := hA4
      have hA5 : pb_A w H (o + 5) 0 40 (pb_zf (S.2.2 0)) := hA5
      have hA6 : pb_A w H (o + 6) 0 40 (pb_zf (S.2.2 1)) := hA6
      have hA7 : pb_A w H (o + 7) 0 576 (pb_zf ((mdZ (stp (mg S s) n (bfs (mg S s) (24 * b + a) (S.2.2 2) n)) (bfs (mg S s) (24 * b + a) (S.2.2 2) n) k))) := hA7
      have hA8 : pb_A w H (o + 8) 0 1300 (pb_zf (S.2.2 3)) := hA8
      have hA9 : pb_A w H (o + 9) 0 1300 (pb_zf (S.2.2 4)) := hA9
      have hA10 : pb_A w H (o + 10) 0 400 (pb_zf (S.2.2 5)) := hA10
      have hA11 : pb_A w H (o + 11) 0 400 (pb_zf (S.2.2 6)) := hA11
      have hA12 : pb_A w H (o + 12) 0 625 (pb_nf (S.2.1 4)) := hA12
      have hrk : k < 576 → -1 ≤ (bfs (mg S s) (24 * b + a) (S.2.2 2) n) k ∧ (bfs (mg S s) (24 * b + a) (S.2.2 2) n) k ≤ n := fun h => bfs_rng _ _ _ n k h
      have L276 : (k < 576) → ((bfs (mg S s) (24 * b + a) (S.2.2 2) n) k < 0) → (gc (mg S s) ((k % 24 : Nat) : Int) ((k / 24 : Nat) : Int) = true) → (¬ nxtTo n (bfs (mg S s) (24 * b + a) (S.2.2 2) n) k) →  ∀ (ls : Array Slot), lv_has ls 12 [(0, .ref (o)), (1, .int (iZ (((s : Nat) : Int)))), (2, .int (iZ (((a : Nat) : Int)))), (3, .int (iZ (((b : Nat) : Int)))), (4, .int (iZ (((c : Nat) : Int)))), (5, .int (iZ (((d : Nat) : Int)))), (6, .int (iZ (((n : Nat) : Int)))), (7, .int (iZ ((bI (m1))))), (8, .int (iZ (((k : Nat) : Int)))), (9, .int (iZ ((((k % 24) : Nat) : Int)))), (10, .int (iZ ((((k / 24) : Nat) : Int))))] → pb_V w.2.2.2 p_ l e_ (pb_rm 6 (0) (0)) s_ m_ ar_ bl_ me_ co_ H (0) (0) (pb_E w bl_ ar_ s_ (0) (0) (pb_qi (fun z H1 => ∃ n : Nat, ((0 ≤ (bfs (mg S s) (24 * b + a) (S.2.2 2) n) (24 * d + c) ∧ z = (bfs (mg S s) (24 * b + a) (S.2.2 2) n) (24 * d + c) ∧ MW w H1 o (mC (mI S 0 0) 2 (bfs (mg S s) (24 * b + a) (S.2.2 2) n))) ∨ (bfs (mg S s) (24 * b + a) (S.2.2 2) (n + 1) = (bfs (mg S s) (24 * b + a) (S.2.2 2) n) ∧ (bfs (mg S s) (24 * b + a) (S.2.2 2) n) (24 * d + c) < 0 ∧ z = 0 ∧ MW w H1 o (mI (mC (mI S 0 0) 2 (bfs (mg S s) (24 * b + a) (S.2.2 2) n)) 0 3))) ∧ mF o H0 H1))) (F0 m_ 276 ls []) := by
        intro  hk4 hneg hgc qn ls hl
        have hrng_ : ∀ j, j < 576 → -1 ≤ (mdZ (stp (mg S s) n (bfs (mg S s) (24 * b + a) (S.2.2 2) n)) (bfs (mg S s) (24 * b + a) (S.2.2 2) n) k) j ∧ (mdZ (stp (mg S s) n (bfs (mg S s) (24 * b + a) (S.2.2 2) n)) (bfs (mg S s) (24 * b + a) (S.2.2 2) n) k) j ≤ n + 1 := stp_rng (fun j hj => bfs_rng _ _ _ n j hj) k
        have hsk : stp (mg S s) n (bfs (mg S s) (24 * b + a) (S.2.2 2) n) k = (bfs (mg S s) (24 * b + a) (S.2.2 2) n) k := stp_n (fun h => qn h.2.2)
        refine pb_ic C dX3_steps_276 ?_
        refine pb_istore C dX3_steps_277 hl (by decide) rfl fun ls hl => ?_
        have hl : lv_has ls 12 [(11, .int (iZ (0))), (0, .ref (o)), (1, .int (iZ (((s : Nat) : Int)))), (2, .int (iZ (((a : Nat) : Int)))), (3, .int (iZ (((b : Nat) : Int)))), (4, .int (iZ (((c : Nat) : Int)))), (5, .int (iZ (((d : Nat) : Int)))), (6, .int (iZ (((n : Nat) : Int)))), (7, .int (iZ ((bI (m1))))), (8, .int (iZ (((k : Nat) : Int)))), (9, .int (iZ ((((k % 24) : Nat) : Int)))), (10, .int (iZ ((((k / 24) : Nat) : Int))))] := hl
        refine pb_iload C dX3_steps_279 (lv_at hl 0 rfl) ?_
        refine pb_if_ne C dX3_steps_281 (x := 0) (tgt := 287) (by decide) (by omega) (fun c281_ => ?_) (fun c281_ => ?_)
        · exact absurd c281_ (by decide)
        · refine pb_goto C dX3_steps_284 (tgt := 301) (by decide) ?_
          refine pb_iinc C dX3_steps_301 hl (j := 9) (x := (((k : Nat) : Int))) rfl (by decide) rfl fun ls hl => ?_
          have hl : lv_has ls 12 [(8, .int (iZ ((((k + 1) : Nat) : Int)))), (11, .int (iZ (0))), (0, .ref (o)), (1, .int (iZ (((s : Nat) : Int)))), (2, .int (iZ (((a : Nat) : Int)))), (3, .int (iZ (((b : Nat) : Int)))), (4, .int (iZ (((c : Nat) : Int)))), (5, .int (iZ (((d : Nat) : Int)))), (6, .int (iZ (((n : Nat) : Int)))), (7, .int (iZ ((bI (m1))))), (9, .int (iZ ((((k % 24) : Nat) : Int)))), (10, .int (iZ ((((k / 24) : Nat) : Int))))] := hl
          refine pb_goto C dX3_steps_304 (tgt := 143) (by decide) ?_
          exact pb_V.mono (by omega) (by omega) (ih143 _ (by omega) (k + 1) m1 H rfl hG (by rw [← mdZ_skip _ _ k hsk]; exact ⟨hz, hO, hA1, hA2, hA3, hA4, hA5, hA6, hA7, hA8, hA9, hA10, hA11, hA12⟩) hF (by omega) (by omega) (by omega) (stp_f hmm hsk) ls (lv_sub hl [2, 3, 4, 5, 6, 7, 8, 9, 0] rfl))
      have L272 : (k < 576) → ((bfs (mg S s) (24 * b + a) (S.2.2 2) n) k < 0) → (gc (mg S s) ((k % 24 : Nat) : Int) ((k / 24 : Nat) : Int) = true) → (nxtTo n (bfs (mg S s) (24 * b + a) (S.2.2 2) n) k) →  ∀ (ls : Array Slot), lv_has ls 12 [(0, .ref (o)), (1, .int (iZ (((s : Nat) : Int)))), (2, .int (iZ (((a : Nat) : Int)))), (3, .int (iZ (((b : Nat) : Int)))), (4, .int (iZ (((c : Nat) : Int)))), (5, .int (iZ (((d : Nat) : Int)))), (6, .int (iZ (((n : Nat) : Int)))), (7, .int (iZ ((bI (m1))))), (8, .int (iZ (((k : Nat) : Int)))), (9, .int (iZ ((((k % 24) : Nat) : Int)))), (10, .int (iZ ((((k / 24) : Nat) : Int))))] → pb_V w.2.2.2 p_ l e_ (pb_rm 6 (0) (0)) s_ m_ ar_ bl_ me_ co_ H (0) (0) (pb_E w bl_ ar_ s_ (0) (0) (pb_qi (fun z H1 => ∃ n : Nat, ((0 ≤ (bfs (mg S s) (24 * b + a) (S.2.2 2) n) (24 * d + c) ∧ z = (bfs (mg S s) (24 * b + a) (S.2.2 2) n) (24 * d + c) ∧ MW w H1 o (mC (mI S 0 0) 2 (bfs (mg S s) (24 * b + a) (S.2.2 2) n))) ∨ (bfs (mg S s) (24 * b + a) (S.2.2 2) (n + 1) = (bfs (mg S s) (24 * b + a) (S.2.2 2) n) ∧ (bfs (mg S s) (24 * b + a) (S.2.2 2) n) (24 * d + c) < 0 ∧ z = 0 ∧ MW w H1 o (mI (mC (mI S 0 0) 2 (bfs (mg S s) (24 * b + a) (S.2.2 2) n)) 0 3))) ∧ mF o H0 H1))) (F0 m_ 272 ls []) := by
        intro  hk4 hneg hgc hx ls hl
        have hrng_ : ∀ j, j < 576 → -1 ≤ (mdZ (stp (mg S s) n (bfs (mg S s) (24 * b + a) (S.2.2 2) n)) (bfs (mg S s) (24 * b + a) (S.2.2 2) n) k) j ∧ (mdZ (stp (mg S s) n (bfs (mg S s) (24 * b + a) (S.2.2 2) n)) (bfs (mg S s) (24 * b + a) (S.2.2 2) n) k) j ≤ n + 1 := stp_rng (fun j hj => bfs_rng _ _ _ n j hj) k
        have hsy := stp_y hneg hgc hx
        have hne := stp_ne hneg hsy
        refine pb_ic C dX3_steps_272 ?_
        refine pb_goto C dX3_steps_273 (tgt := 277) (by decide) ?_
        refine pb_istore C dX3_steps_277 hl (by decide) rfl fun ls hl => ?_
        have hl : lv_has ls 12 [(11, .int (iZ (1))), (0, .ref (o)), (1, .int (iZ (((s : Nat) : Int)))), (2, .int (iZ (((a : Nat) : Int)))), (3, .int (iZ (((b : Nat) : Int)))), (4, .int (iZ (((c : Nat) : Int)))), (5, .int (iZ (((d : Nat) : Int)))), (6, .int (iZ (((n : Nat) : Int)))), (7, .int (iZ ((bI (m1))))), (8, .int (iZ (((k : Nat) : Int)))), (9, .int (iZ ((((k % 24) : Nat) : Int)))), (10, .int (iZ ((((k / 24) : Nat) : Int))))] := hl
        refine pb_iload C dX3_steps_279 (lv_at hl 0 rfl) ?_
        refine pb_if_ne C dX3_steps_281 (x := 1) (tgt := 287) (by decide) (by omega) (fun c281_ => ?_) (fun c281_ => ?_)
        · refine pb_aload_n C dX3_steps_287 rfl (lv_at hl 1 rfl) ?_
          refine pb_get C in_X3 hO.r (ci := 2) rfl 8 (by decide) q1745 (fun _ h9 => h9) (v := .ref (o + 7)) rfl dX3_steps_288 ?_
          refine pb_iload C dX3_steps_291 (lv_at hl 9 rfl) ?_
          refine pb_iload C dX3_steps_293 (lv_at hl 7 rfl) ?_
          refine pb_ic C dX3_steps_295 ?_
          refine pb_iadd C dX3_steps_296 ?_
          refine pb_iast C hA7 (i := ((k : Nat) : Int)) (by omega) (by omega) dX3_steps_297 fun H1_ hu_ hA7 => ?_
          rw [pb_upZ, Int.toNat_natCast, mdZ_step (stp (mg S s) n (bfs (mg S s) (24 * b + a) (S.2.2 2) n)) (bfs (mg S s) (24 * b + a) (S.2.2 2) n) k (v := ((n : Nat) : Int) + 1) (hsy.trans (by omega))] at hA7
          have hG := hG.kept (hu_.z (by omega))
          have hO := hO.kept (hu_.2 _ (by omega))
          have hA1 := hA1.kept (hu_.2 _ (by omega))
          have hA2 := hA2.kept (hu_.2 _ (by omega))
          have hA3 := hA3.kept (hu_.2 _ (by omega))
          have hA4 := hA4.kept (hu_.2 _ (by omega))
          have hA5 := hA5.kept (hu_.2 _ (by omega))
          have hA6 := hA6.kept (hu_.2 _ (by omega))
          have hA8 := hA8.kept (hu_.2 _ (by omega))
          have hA9 := hA9.kept (hu_.2 _ (by omega))
          have hA10 := hA10.kept (hu_.2 _ (by omega))
          have hA11 := hA11.kept (hu_.2 _ (by omega))
          have hA12 := hA12.kept (hu_.2 _ (by omega))
          have hF := hF.up hu_ (by omega)
          refine pb_ic C dX3_steps_298 ?_
          refine pb_istore C dX3_steps_299 hl (by decide) rfl fun ls hl => ?_
          have hl : lv_has ls 12 [(7, .int (iZ (1))), (11, .int (iZ (1))), (0, .ref (o)), (1, .int (iZ (((s : Nat) : Int)))), (2, .int (iZ (((a : Nat) : Int)))), (3, .int (iZ (((b : Nat) : Int)))), (4, .int (iZ (((c : Nat) : Int)))), (5, .int (iZ (((d : Nat) : Int)))), (6, .int (iZ (((n : Nat) : Int)))), (8, .int (iZ (((k : Nat) : Int)))), (9, .int (iZ ((((k % 24) : Nat) : Int)))), (10, .int (iZ ((((k / 24) : Nat) : Int))))] := hl
          refine pb_iinc C dX3_steps_301 hl (j := 9) (x := (((k : Nat) : Int))) rfl (by decide) rfl fun ls hl => ?_
          have hl : lv_has ls 12 [(8, .int (iZ ((((k + 1) : Nat) : Int)))), (7, .int (iZ (1))), (11, .int (iZ (1))), (0, .ref (o)), (1, .int (iZ (((s : Nat) : Int)))), (2, .int (iZ (((a : Nat) : Int)))), (3, .int (iZ (((b : Nat) : Int)))), (4, .int (iZ (((c : Nat) : Int)))), (5, .int (iZ (((d : Nat) : Int)))), (6, .int (iZ (((n : Nat) : Int)))), (9, .int (iZ ((((k % 24) : Nat) : Int)))), (10, .int (iZ ((((k / 24) : Nat) : Int))))] := hl
          refine pb_goto C dX3_steps_304 (tgt := 143) (by decide) ?_
          exact pb_V.mono (by omega) (by omega) (ih143 _ (by omega) (k + 1) true H1_ rfl hG ⟨hz, hO, hA1, hA2, hA3, hA4, hA5, hA6, hA7, hA8, hA9, hA10, hA11, hA12⟩ hF (by omega) (by omega) (by omega) (stp_t hne) ls (lv_sub hl [3, 4, 5, 6, 7, 8, 9, 1, 0] rfl))
        · exact absurd c281_ (by decide)
      have L250 : (k < 576) → ((bfs (mg S s) (24 * b + a) (S.2.2 2) n) k < 0) → (gc (mg S s) ((k % 24 : Nat) : Int) ((k / 24 : Nat) : Int) = true) → (¬ (0 < k % 24 ∧ (bfs (mg S s) (24 * b + a) (S.2.2 2) n) (k - 1) = n)) → (¬ (k % 24 < 23 ∧ (bfs (mg S s) (24 * b + a) (S.2.2 2) n) (k + 1) = n)) → (¬ (0 < k / 24 ∧ (bfs (mg S s) (24 * b + a) (S.2.2 2) n) (k - 24) = n)) →  ∀ (ls : Array Slot), lv_has ls 12 [(0, .ref (o)), (1, .int (iZ (((s : Nat) : Int)))), (2, .int (iZ (((a : Nat) : Int)))), (3, .int (iZ (((b : Nat) : Int)))), (4, .int (iZ (((c : Nat) : Int)))), (5, .int (iZ (((d : Nat) : Int)))), (6, .int (iZ (((n : Nat) : Int)))), (7, .int (iZ ((bI (m1))))), (8, .int (iZ (((k : Nat) : Int)))), (9, .int (iZ ((((k % 24) : Nat) : Int)))), (10, .int (iZ ((((k / 24) : Nat) : Int))))] → pb_V w.2.2.2 p_ l e_ (pb_rm 6 (0) (0)) s_ m_ ar_ bl_ me_ co_ H (0) (0) (pb_E w bl_ ar_ s_ (0) (0) (pb_qi (fun z H1 => ∃ n : Nat, ((0 ≤ (bfs (mg S s) (24 * b + a) (S.2.2 2) n) (24 * d + c) ∧ z = (bfs (mg S s) (24 * b + a) (S.2.2 2) n) (24 * d + c) ∧ MW w H1 o (mC (mI S 0 0) 2 (bfs (mg S s) (24 * b + a) (S.2.2 2) n))) ∨ (bfs (mg S s) (24 * b + a) (S.2.2 2) (n + 1) = (bfs (mg S s) (24 * b + a) (S.2.2 2) n) ∧ (bfs (mg S s) (24 * b + a) (S.2.2 2) n) (24 * d + c) < 0 ∧ z = 0 ∧ MW w H1 o (mI (mC (mI S 0 0) 2 (bfs (mg S s) (24 * b + a) (S.2.2 2) n)) 0 3))) ∧ mF o H0 H1))) (F0 m_ 250 ls []) := by
        intro  hk4 hneg hgc q1 q2 q3 ls hl
        have hrng_ : ∀ j, j < 576 → -1 ≤ (mdZ (stp (mg S s) n (bfs (mg S s) (24 * b + a) (S.2.2 2) n)) (bfs (mg S s) (24 * b + a) (S.2.2 2) n) k) j ∧ (mdZ (stp (mg S s) n (bfs (mg S s) (24 * b + a) (S.2.2 2) n)) (bfs (mg S s) (24 * b + a) (S.2.2 2) n) k) j ≤ n + 1 := stp_rng (fun j hj => bfs_rng _ _ _ n j hj) k
        refine pb_iload C dX3_steps_250 (lv_at hl 10 rfl) ?_
        refine pb_bip C dX3_steps_252 (by decide) ?_
        refine pb_icmp_ge C dX3_steps_254 (x := (((k / 24) : Nat) : Int)) (y := 23) (tgt := 276) (by decide) (by omega) (by omega) (fun c254_ => ?_) (fun c254_ => ?_)
        · exact pb_V.mono (by omega) (by omega) (L276  hk4 hneg hgc (not_or.mpr ⟨q1, not_or.mpr ⟨q2, not_or.mpr ⟨q3, fun h => by omega⟩⟩⟩) ls (lv_sub hl [0, 1, 2, 3, 4, 5, 6, 7, 8, 9, 10] rfl))
        · refine pb_aload_n C dX3_steps_257 rfl (lv_at hl 0 rfl) ?_
          refine pb_get C in_X3 hO.r (ci := 2) rfl 8 (by decide) q1745 (fun _ h9 => h9) (v := .ref (o + 7)) rfl dX3_steps_258 ?_
          refine pb_iload C dX3_steps_261 (lv_at hl 8 rfl) ?_
          refine pb_bip C dX3_steps_263 (by decide) ?_
          refine pb_iadd C dX3_steps_265 ?_
          refine pb_iald C hA7.b (i := (((k + 24) : Nat) : Int)) (v := .int (iZ (((mdZ (stp (mg S s) n (bfs (mg S s) (24 * b + a) (S.2.2 2) n)) (bfs (mg S s) (24 * b + a) (S.2.2 2) n) k) (k + 24))))) (by omega) (congrArg (fun j : Nat => Value.int (iZ ((mdZ (stp (mg S s) n (bfs (mg S s) (24 * b + a) (S.2.2 2) n)) (bfs (mg S s) (24 * b + a) (S.2.2 2) n) k) j))) (show ((((k + 24) : Nat) : Int)).toNat = (k + 24) by omega)) dX3_steps_266 ?_
          refine pb_iload C dX3_steps_267 (lv_at hl 6 rfl) ?_
          refine pb_icmp_ne C dX3_steps_269 (x := ((mdZ (stp (mg S s) n (bfs (mg S s) (24 * b + a) (S.2.2 2) n)) (bfs (mg S s) (24 * b + a) (S.2.2 2) n) k) (k + 24))) (y := ((n : Nat) : Int)) (tgt := 276) (by decide) (by have := hrng_ (k + 24) (by omega); omega) (by omega) (fun c269_ => ?_) (fun c269_ => ?_)
          · have q4 : ¬ (k / 24 < 23 ∧ (bfs (mg S s) (24 * b + a) (S.2.2 2) n) (k + 24) = n) := (fun h => c269_ ((stp_eq (mg S s) (by omega) (bfs (mg S s) (24 * b + a) (S.2.2 2) n) k (k + 24)).mpr h.2))
            exact pb_V.mono (by omega) (by omega) (L276  hk4 hneg hgc (not_or.mpr ⟨q1, not_or.mpr ⟨q2, not_or.mpr ⟨q3, q4⟩⟩⟩) ls (lv_sub hl [0, 1, 2, 3, 4, 5, 6, 7, 8, 9, 10] rfl))
          · have hx : nxtTo n (bfs (mg S s) (24 * b + a) (S.2.2 2) n) k := (Or.inr (Or.inr (Or.inr ⟨by omega, (stp_eq (mg S s) (by omega) (bfs (mg S s) (24 * b + a) (S.2.2 2) n) k (k + 24)).mp c269_⟩)))
            exact pb_V.mono (by omega) (by omega) (L272  hk4 hneg hgc (Or.inr (Or.inr (Or.inr ⟨by omega, (stp_eq (mg S s) (by omega) (bfs (mg S s) (24 * b + a) (S.2.2 2) n) k (k + 24)).mp c269_⟩))) ls (lv_sub hl [0, 1, 2, 3, 4, 5, 6, 7, 8, 9, 10] rfl))
      have L230 : (k < 576) → ((bfs (mg S s) (24 * b + a) (S.2.2 2) n) k < 0) → (gc (mg S s) ((k % 24 : Nat) : Int) ((k / 24 : Nat) : Int) = true) → (¬ (0 < k % 24 ∧ (bfs (mg S s) (24 * b + a) (S.2.2 2) n) (k - 1) = n)) → (¬ (k % 24 < 23 ∧ (bfs (mg S s) (24 * b + a) (S.2.2 2) n) (k + 1) = n)) →  ∀ (ls : Array Slot), lv_has ls 12 [(0, .ref (o)), (1, .int (iZ (((s : Nat) : Int)))), (2, .int (iZ (((a : Nat) : Int)))), (3, .int (iZ (((b : Nat) : Int)))), (4, .int (iZ (((c : Nat) : Int)))), (5, .int (iZ (((d : Nat) : Int)))), (6, .int (iZ (((n : Nat) : Int)))), (7, .int (iZ ((bI (m1))))), (8, .int (iZ (((k : Nat) : Int)))), (9, .int (iZ ((((k % 24) : Nat) : Int)))), (10, .int (iZ ((((k / 24) : Nat) : Int))))] → pb_V w.2.2.2 p_ l e_ (pb_rm 6 (0) (0)) s_ m_ ar_ bl_ me_ co_ H (0) (0) (pb_E w bl_ ar_ s_ (0) (0) (pb_qi (fun z H1 => ∃ n : Nat, ((0 ≤ (bfs (mg S s) (24 * b + a) (S.2.2 2) n) (24 * d + c) ∧ z = (bfs (mg S s) (24 * b + a) (S.2.2 2) n) (24 * d + c) ∧ MW w H1 o (mC (mI S 0 0) 2 (bfs (mg S s) (24 * b + a) (S.2.2 2) n))) ∨ (bfs (mg S s) (24 * b + a) (S.2.2 2) (n + 1) = (bfs (mg S s) (24 * b + a) (S.2.2 2) n) ∧ (bfs (mg S s) (24 * b + a) (S.2.2 2) n) (24 * d + c) < 0 ∧ z = 0 ∧ MW w H1 o (mI (mC (mI S 0 0) 2 (bfs (mg S s) (24 * b + a) (S.2.2 2) n)) 0 3))) ∧ mF o H0 H1))) (F0 m_ 230 ls []) := by
        intro  hk4 hneg hgc q1 q2 ls hl
        have hrng_ : ∀ j, j < 576 → -1 ≤ (mdZ (stp (mg S s) n (bfs (mg S s) (24 * b + a) (S.2.2 2) n)) (bfs (mg S s) (24 * b + a) (S.2.2 2) n) k) j ∧ (mdZ (stp (mg S s) n (bfs (mg S s) (24 * b + a) (S.2.2 2) n)) (bfs (mg S s) (24 * b + a) (S.2.2 2) n) k) j ≤ n + 1 := stp_rng (fun j hj => bfs_rng _ _ _ n j hj) k
        refine pb_iload C dX3_steps_230 (lv_at hl 10 rfl) ?_
        refine pb_if_le C dX3_steps_232 (x := (((k / 24) : Nat) : Int)) (tgt := 250) (by decide) (by omega) (fun c232_ => ?_) (fun c232_ => ?_)
        · exact pb_V.mono (by omega) (by omega) (L250  hk4 hneg hgc q1 q2 (fun h => by omega) ls (lv_sub hl [0, 1, 2, 3, 4, 5, 6, 7, 8, 9, 10] rfl))
        · refine pb_aload_n C dX3_steps_235 rfl (lv_at hl 0 rfl) ?_
          refine pb_get C in_X3 hO.r (ci := 2) rfl 8 (by decide) q1745 (fun _ h9 => h9) (v := .ref (o + 7)) rfl dX3_steps_236 ?_
          refine pb_iload C dX3_steps_239 (lv_at hl 8 rfl) ?_
          refine pb_bip C dX3_steps_241 (by decide) ?_
          refine pb_isub C dX3_steps_243 ?_
          refine pb_iald C hA7.b (i := (((k : Nat) : Int) - 24)) (v := .int (iZ (((mdZ (stp (mg S s) n (bfs (mg S s) (24 * b + a) (S.2.2 2) n)) (bfs (mg S s) (24 * b + a) (S.2.2 2) n) k) (k - 24))))) (by omega) (congrArg (fun j : Nat => Value.int (iZ ((mdZ (stp (mg S s) n (bfs (mg S s) (24 * b + a) (S.2.2 2) n)) (bfs (mg S s) (24 * b + a) (S.2.2 2) n) k) j))) (show ((((k : Nat) : Int) - 24)).toNat = (k - 24) by omega)) dX3_steps_244 ?_
          refine pb_iload C dX3_steps_245 (lv_at hl 6 rfl) ?_
          refine pb_icmp_eq C dX3_steps_247 (x := ((mdZ (stp (mg S s) n (bfs (mg S s) (24 * b + a) (S.2.2 2) n)) (bfs (mg S s) (24 * b + a) (S.2.2 2) n) k) (k - 24))) (y := ((n : Nat) : Int)) (tgt := 272) (by decide) (by have := hrng_ (k - 24) (by omega); omega) (by omega) (fun c247_ => ?_) (fun c247_ => ?_)
          · exact pb_V.mono (by omega) (by omega) (L272  hk4 hneg hgc (Or.inr (Or.inr (Or.inl ⟨by omega, (stp_eq (mg S s) (by omega) (bfs (mg S s) (24 * b + a) (S.2.2 2) n) k (k - 24)).mp c247_⟩))) ls (lv_sub hl [0, 1, 2, 3, 4, 5, 6, 7, 8, 9, 10] rfl))
          · exact pb_V.mono (by omega) (by omega) (L250  hk4 hneg hgc q1 q2 (fun h => c247_ ((stp_eq (mg S s) (by omega) (bfs (mg S s) (24 * b + a) (S.2.2 2) n) k (k - 24)).mpr h.2)) ls (lv_sub hl [0, 1, 2, 3, 4, 5, 6, 7, 8, 9, 10] rfl))
      have L209 : (k < 576) → ((bfs (mg S s) (24 * b + a) (S.2.2 2) n) k < 0) → (gc (mg S s) ((k % 24 : Nat) : Int) ((k / 24 : Nat) : Int) = true) → (¬ (0 < k % 24 ∧ (bfs (mg S s) (24 * b + a) (S.2.2 2) n) (k - 1) = n)) →  ∀ (ls : Array Slot), lv_has ls 12 [(0, .ref (o)), (1, .int (iZ (((s : Nat) : Int)))), (2, .int (iZ (((a : Nat) : Int)))), (3, .int (iZ (((b : Nat) : Int)))), (4, .int (iZ (((c : Nat) : Int)))), (5, .int (iZ (((d : Nat) : Int)))), (6, .int (iZ (((n : Nat) : Int)))), (7, .int (iZ ((bI (m1))))), (8, .int (iZ (((k : Nat) : Int)))), (9, .int (iZ ((((k % 24) : Nat) : Int)))), (10, .int (iZ ((((k / 24) : Nat) : Int))))] → pb_V w.2.2.2 p_ l e_ (pb_rm 6 (0) (0)) s_ m_ ar_ bl_ me_ co_ H (0) (0) (pb_E w bl_ ar_ s_ (0) (0) (pb_qi (fun z H1 => ∃ n : Nat, ((0 ≤ (bfs (mg S s) (24 * b + a) (S.2.2 2) n) (24 * d + c) ∧ z = (bfs (mg S s) (24 * b + a) (S.2.2 2) n) (24 * d + c) ∧ MW w H1 o (mC (mI S 0 0) 2 (bfs (mg S s) (24 * b + a) (S.2.2 2) n))) ∨ (bfs (mg S s) (24 * b + a) (S.2.2 2) (n + 1) = (bfs (mg S s) (24 * b + a) (S.2.2 2) n) ∧ (bfs (mg S s) (24 * b + a) (S.2.2 2) n) (24 * d + c) < 0 ∧ z = 0 ∧ MW w H1 o (mI (mC (mI S 0 0) 2 (bfs (mg S s) (24 * b + a) (S.2.2 2) n)) 0 3))) ∧ mF o H0 H1))) (F0 m_ 209 ls []) := by
        intro  hk4 hneg hgc q1 ls hl
        have hrng_ : ∀ j, j < 576 → -1 ≤ (mdZ (stp (mg S s) n (bfs (mg S s) (24 * b + a) (S.2.2 2) n)) (bfs (mg S s) (24 * b + a) (S.2.2 2) n) k) j ∧ (mdZ (stp (mg S s) n (bfs (mg S s) (24 * b + a) (S.2.2 2) n)) (bfs (mg S s) (24 * b + a) (S.2.2 2) n) k) j ≤ n + 1 := stp_rng (fun j hj => bfs_rng _ _ _ n j hj) k
        refine pb_iload C dX3_steps_209 (lv_at hl 9 rfl) ?_
        refine pb_bip C dX3_steps_211 (by decide) ?_
        refine pb_icmp_ge C dX3_steps_213 (x := (((k % 24) : Nat) : Int)) (y := 23) (tgt := 230) (by decide) (by omega) (by omega) (fun c213_ => ?_) (fun c213_ => ?_)
        · exact pb_V.mono (by omega) (by omega) (L230  hk4 hneg hgc q1 (fun h => by omega) ls (lv_sub hl [0, 1, 2, 3, 4, 5, 6, 7, 8, 9, 10] rfl))
        · refine pb_aload_n C dX3_steps_216 rfl (lv_at hl 0 rfl) ?_
          refine pb_get C in_X3 hO.r (ci := 2) rfl 8 (by decide) q1745 (fun _ h9 => h9) (v := .ref (o + 7)) rfl dX3_steps_217 ?_
          refine pb_iload C dX3_steps_220 (lv_at hl 8 rfl) ?_
          refine pb_ic C dX3_steps_222 ?_
          refine pb_iadd C dX3_steps_223 ?_
          refine pb_iald C hA7.b (i := (((k + 1) : Nat) : Int)) (v := .int (iZ (((mdZ (stp (mg S s) n (bfs (mg S s) (24 * b + a) (S.2.2 2) n)) (bfs (mg S s) (24 * b + a) (S.2.2 2) n) k) (k + 1))))) (by omega) (congrArg (fun j : Nat => Value.int (iZ ((mdZ (stp (mg S s) n (bfs (mg S s) (24 * b + a) (S.2.2 2) n)) (bfs (mg S s) (24 * b + a) (S.2.2 2) n) k) j))) (show ((((k + 1) : Nat) : Int)).toNat = (k + 1) by omega)) dX3_steps_224 ?_
          refine pb_iload C dX3_steps_225 (lv_at hl 6 rfl) ?_
          refine pb_icmp_eq C dX3_steps_227 (x := ((mdZ (stp (mg S s) n (bfs (mg S s) (24 * b + a) (S.2.2 2) n)) (bfs (mg S s) (24 * b + a) (S.2.2 2) n) k) (k + 1))) (y := ((n : Nat) : Int)) (tgt := 272) (by decide) (by have := hrng_ (k + 1) (by omega); omega) (by omega) (fun c227_ => ?_) (fun c227_ => ?_)
          · exact pb_V.mono (by omega) (by omega) (L272  hk4 hneg hgc (Or.inr (Or.inl ⟨by omega, (stp_eq (mg S s) (by omega) (bfs (mg S s) (24 * b + a) (S.2.2 2) n) k (k + 1)).mp c227_⟩)) ls (lv_sub hl [0, 1, 2, 3, 4, 5, 6, 7, 8, 9, 10] rfl))
          · exact pb_V.mono (by omega) (by omega) (L230  hk4 hneg hgc q1 (fun h => c227_ ((stp_eq (mg S s) (by omega) (bfs (mg S s) (24 * b + a) (S.2.2 2) n) k (k + 1)).mpr h.2)) ls (lv_sub hl [0, 1, 2, 3, 4, 5, 6, 7, 8, 9, 10] rfl))
      refine pb_iload C dX3_steps_143 (lv_at hl 8 rfl) ?_
      refine pb_sip C dX3_steps_145 (by decide) ?_
      refine pb_icmp_ge C dX3_steps_148 (x := ((k : Nat) : Int)) (y := 576) (tgt := 307) (by decide) (by omega) (by omega) (fun c148_ => ?_) (fun c148_ => ?_)
      · obtain rfl : k = 576 := by omega
        have hst1 := stM_f hmm
        have hn1 := stM_n hmm hnn
        refine pb_iinc C dX3_steps_307 hl (j := 6) (x := (((n : Nat) : Int))) rfl (by decide) rfl fun ls hl => ?_
        have hl : lv_has ls 12 [(6, .int (iZ ((((n + 1) : Nat) : Int)))), (0, .ref (o)), (1, .int (iZ (((s : Nat) : Int)))), (2, .int (iZ (((a : Nat) : Int)))), (3, .int (iZ (((b : Nat) : Int)))), (4, .int (iZ (((c : Nat) : Int)))), (5, .int (iZ (((d : Nat) : Int)))), (7, .int (iZ ((bI (m1))))), (8, .int (iZ (((576 : Nat) : Int))))] := hl
        refine pb_goto C dX3_steps_310 (tgt := 116) (by decide) ?_
        exact pb_V.mono (by omega) (by omega) (ih116 _ (by omega) (n + 1) m1 H rfl hG hM hF hn1 hst1 ls (lv_sub hl [1, 2, 3, 4, 5, 6, 0, 7] rfl))
      · have hrk := hrk (by omega)
        refine pb_iload C dX3_steps_151 (lv_at hl 8 rfl) ?_
        refine pb_bip C dX3_steps_153 (by decide) ?_
        refine pb_irem C dX3_steps_155 (x := ((k : Nat) : Int)) (y := 24) (by omega) (by omega) (by omega) ?_
        refine pb_istore C dX3_steps_156 hl (by decide) rfl fun ls hl => ?_
        have hl : lv_has ls 12 [(9, .int (iZ ((((k % 24) : Nat) : Int)))), (0, .ref (o)), (1, .int (iZ (((s : Nat) : Int)))), (2, .int (iZ (((a : Nat) : Int)))), (3, .int (iZ (((b : Nat) : Int)))), (4, .int (iZ (((c : Nat) : Int)))), (5, .int (iZ (((d : Nat) : Int)))), (6, .int (iZ (((n : Nat) : Int)))), (7, .int (iZ ((bI (m1))))), (8, .int (iZ (((k : Nat) : Int))))] := hl
        refine pb_iload C dX3_steps_158 (lv_at hl 9 rfl) ?_
        refine pb_bip C dX3_steps_160 (by decide) ?_
        refine pb_idiv C dX3_steps_162 (x := ((k : Nat) : Int)) (y := 24) (by omega) (by omega) (by omega) ?_
        refine pb_istore C dX3_steps_163 hl (by decide) rfl fun ls hl => ?_
        have hl : lv_has ls 12 [(10, .int (iZ ((((k / 24) : Nat) : Int)))), (9, .int (iZ ((((k % 24) : Nat) : Int)))), (0, .ref (o)), (1, .int (iZ (((s : Nat) : Int)))), (2, .int (iZ (((a : Nat) : Int)))), (3, .int (iZ (((b : Nat) : Int)))), (4, .int (iZ (((c : Nat) : Int)))), (5, .int (iZ (((d : Nat) : Int)))), (6, .int (iZ (((n : Nat) : Int)))), (7, .int (iZ ((bI (m1))))), (8, .int (iZ (((k : Nat) : Int))))] := hl
        refine pb_aload_n C dX3_steps_165 rfl (lv_at hl 2 rfl) ?_
        refine pb_get C in_X3 hO.r (ci := 2) rfl 8 (by decide) q1745 (fun _ h9 => h9) (v := .ref (o + 7)) rfl dX3_steps_166 ?_
        refine pb_iload C dX3_steps_169 (lv_at hl 10 rfl) ?_
        refine pb_iald C hA7.b (i := ((k : Nat) : Int)) (v := .int (iZ (((bfs (mg S s) (24 * b + a) (S.2.2 2) n) k)))) (by omega) (congrArg (fun z : Int => Value.int (iZ z)) (stp_at _ _ _ k)) dX3_steps_171 ?_
        refine pb_if_ge C dX3_steps_172 (x := ((bfs (mg S s) (24 * b + a) (S.2.2 2) n) k)) (tgt := 301) (by decide) (by omega) (fun c172_ => ?_) (fun c172_ => ?_)
        · have hsk : stp (mg S s) n (bfs (mg S s) (24 * b + a) (S.2.2 2) n) k = (bfs (mg S s) (24 * b + a) (S.2.2 2) n) k := stp_n (fun h => by omega)
          refine pb_iinc C dX3_steps_301 hl (j := 10) (x := (((k : Nat) : Int))) rfl (by decide) rfl fun ls hl => ?_
          have hl : lv_has ls 12 [(8, .int (iZ ((((k + 1) : Nat) : Int)))), (10, .int (iZ ((((k / 24) : Nat) : Int)))), (9, .int (iZ ((((k % 24) : Nat) : Int)))), (0, .ref (o)), (1, .int (iZ (((s : Nat) : Int)))), (2, .int (iZ (((a : Nat) : Int)))), (3, .int (iZ (((b : Nat) : Int)))), (4, .int (iZ (((c : Nat) : Int)))), (5, .int (iZ (((d : Nat) : Int)))), (6, .int (iZ (((n : Nat) : Int)))), (7, .int (iZ ((bI (m1)))))] := hl
          refine pb_goto C dX3_steps_304 (tgt := 143) (by decide) ?_
          exact pb_V.mono (by omega) (by omega) (ih143 _ (by omega) (k + 1) m1 H rfl hG (by rw [← mdZ_skip _ _ k hsk]; exact ⟨hz, hO, hA1, hA2, hA3, hA4, hA5, hA6, hA7, hA8, hA9, hA10, hA11, hA12⟩) hF (by omega) (by omega) (by omega) (stp_f hmm hsk) ls (lv_sub hl [3, 4, 5, 6, 7, 8, 9, 10, 0] rfl))
        · refine pb_aload_n C dX3_steps_175 rfl (lv_at hl 2 rfl) ?_
          refine pb_iload_n C dX3_steps_176 rfl (lv_at hl 3 rfl) ?_
          refine pb_iload C dX3_steps_177 (lv_at hl 1 rfl) ?_
          refine pb_iload C dX3_steps_179 (lv_at hl 0 rfl) ?_
          refine pb_go_x (bc' := 0) (bs' := 0) (pb_runV (rest := []) C hG (met_X3_has l o (mC (mI S 0 0) 2 (mdZ (stp (mg S s) n (bfs (mg S s) (24 * b + a) (S.2.2 2) n)) (bfs (mg S s) (24 * b + a) (S.2.2 2) n) k)) ⟨hz, hO, hA1, hA2, hA3, hA4, hA5, hA6, hA7, hA8, hA9, hA10, hA11, hA12⟩ s hs hb ((((k % 24) : Nat) : Int)) ((((k / 24) : Nat) : Int)) (by omega) (by omega)) hO.r (ci := 2) rfl (lw_V q1875 q1877 qs35 q60 q1878) ⟨rfl, hdX3_has⟩ rfl hl.1 rfl (Nat.le_of_ble_eq_true rfl) ⟨(Nat.le_of_ble_eq_true rfl), (Nat.le_of_ble_eq_true rfl)⟩ dX3_steps_181) (by omega) (by omega) ?_
          refine pb_ifB_ne C dX3_steps_184 (tgt := 190) (by decide) (fun c184_ => ?_) (fun c184_ => ?_)
          · have hneg : (bfs (mg S s) (24 * b + a) (S.2.2 2) n) k < 0 := by omega
            have hk4 : k < 576 := by omega
            have hgc := c184_
            have hrng_ : ∀ j, j < 576 → -1 ≤ (mdZ (stp (mg S s) n (bfs (mg S s) (24 * b + a) (S.2.2 2) n)) (bfs (mg S s) (24 * b + a) (S.2.2 2) n) k) j ∧ (mdZ (stp (mg S s) n (bfs (mg S s) (24 * b + a) (S.2.2 2) n)) (bfs (mg S s) (24 * b + a) (S.2.2 2) n) k) j ≤ n + 1 := stp_rng (fun j hj => bfs_rng _ _ _ n j hj) k
            refine pb_iload C dX3_steps_190 (lv_at hl 1 rfl) ?_
            refine pb_if_le C dX3_steps_192 (x := (((k % 24) : Nat) : Int)) (tgt := 209) (by decide) (by omega) (fun c192_ => ?_) (fun c192_ => ?_)
            · exact pb_V.mono (by omega) (by omega) (L209  hk4 hneg hgc (fun h => by omega) ls (lv_sub hl [2, 3, 4, 5, 6, 7, 8, 9, 10, 1, 0] rfl))
            · refine pb_aload_n C dX3_steps_195 rfl (lv_at hl 2 rfl) ?_
              refine pb_get C in_X3 hO.r (ci := 2) rfl 8 (by decide) q1745 (fun _ h9 => h9) (v := .ref (o + 7)) rfl dX3_steps_196 ?_
              refine pb_iload C dX3_steps_199 (lv_at hl 10 rfl) ?_
              refine pb_ic C dX3_steps_201 ?_
              refine pb_isub C dX3_steps_202 ?_
              refine pb_iald C hA7.b (i := (((k : Nat) : Int) - 1)) (v := .int (iZ (((mdZ (stp (mg S s) n (bfs (mg S s) (24 * b + a) (S.2.2 2) n)) (bfs (mg S s) (24 * b + a) (S.2.2 2) n) k) (k - 1))))) (by omega) (congrArg (fun j : Nat => Value.int (iZ ((mdZ (stp (mg S s) n (bfs (mg S s) (24 * b + a) (S.2.2 2) n)) (bfs (mg S s) (24 * b + a) (S.2.2 2) n) k) j))) (show ((((k : Nat) : Int) - 1)).toNat = (k - 1) by omega)) dX3_steps_203 ?_
              refine pb_iload C dX3_steps_204 (lv_at hl 8 rfl) ?_
              refine pb_icmp_eq C dX3_steps_206 (x := ((mdZ (stp (mg S s) n (bfs (mg S s) (24 * b + a) (S.2.2 2) n)) (bfs (mg S s) (24 * b + a) (S.2.2 2) n) k) (k - 1))) (y := ((n : Nat) : Int)) (tgt := 272) (by decide) (by have := hrng_ (k - 1) (by omega); omega) (by omega) (fun c206_ => ?_) (fun c206_ => ?_)
              · exact pb_V.mono (by omega) (by omega) (L272  hk4 hneg hgc (Or.inl ⟨by omega, (stp_eq (mg S s) (by omega) (bfs (mg S s) (24 * b + a) (S.2.2 2) n) k (k - 1)).mp c206_⟩) ls (lv_sub hl [2, 3, 4, 5, 6, 7, 8, 9, 10, 1, 0] rfl))
              · exact pb_V.mono (by omega) (by omega) (L209  hk4 hneg hgc (fun h => c206_ ((stp_eq (mg S s) (by omega) (bfs (mg S s) (24 * b + a) (S.2.2 2) n) k (k - 1)).mpr h.2)) ls (lv_sub hl [2, 3, 4, 5, 6, 7, 8, 9, 10, 1, 0] rfl))
          · have hsk : stp (mg S s) n (bfs (mg S s) (24 * b + a) (S.2.2 2) n) k = (bfs (mg S s) (24 * b + a) (S.2.2 2) n) k := stp_n (fun h => absurd h.2.1 (Bool.eq_false_iff.mp c184_))
            refine pb_goto C dX3_steps_187 (tgt := 301) (by decide) ?_
            refine pb_iinc C dX3_steps_301 hl (j := 10) (x := (((k : Nat) : Int))) rfl (by decide) rfl fun ls hl => ?_
            have hl : lv_has ls 12 [(8, .int (iZ ((((k + 1) : Nat) : Int)))), (10, .int (iZ ((((k / 24) : Nat) : Int)))), (9, .int (iZ ((((k % 24) : Nat) : Int)))), (0, .ref (o)), (1, .int (iZ (((s : Nat) : Int)))), (2, .int (iZ (((a : Nat) : Int)))), (3, .int (iZ (((b : Nat) : Int)))), (4, .int (iZ (((c : Nat) : Int)))), (5, .int (iZ (((d : Nat) : Int)))), (6, .int (iZ (((n : Nat) : Int)))), (7, .int (iZ ((bI (m1)))))] := hl
            refine pb_goto C dX3_steps_304 (tgt := 143) (by decide) ?_
            exact pb_V.mono (by omega) (by omega) (ih143 _ (by omega) (k + 1) m1 H rfl hG (by rw [← mdZ_skip _ _ k hsk]; exact ⟨hz, hO, hA1, hA2, hA3, hA4, hA5, hA6, hA7, hA8, hA9, hA10, hA11, hA12⟩) hF (by omega) (by omega) (by omega) (stp_f hmm hsk) ls (lv_sub hl [3, 4, 5, 6, 7, 8, 9, 10, 0] rfl))
    refine pb_iload C dX3_steps_116 (lv_at hl 7 rfl) ?_
    refine pb_ifB_eq C dX3_steps_118 (tgt := 313) (by decide) (fun c118_ => ?_) (fun c118_ => ?_)
    · refine pb_aload_n C dX3_steps_313 rfl (lv_at hl 0 rfl) ?_
      refine pb_get C in_X3 hO.r (ci := 2) rfl 8 (by decide) q1745 (fun _ h9 => h9) (v := .ref (o + 7)) rfl dX3_steps_314 ?_
      refine pb_bip C dX3_steps_317 (by decide) ?_
      refine pb_iload C dX3_steps_319 (lv_at hl 5 rfl) ?_
      refine pb_imul C dX3_steps_321 ?_
      refine pb_iload C dX3_steps_322 (lv_at hl 4 rfl) ?_
      refine pb_iadd C dX3_steps_324 ?_
      refine pb_iald C hA7.b (i := ((((24 * d) + c) : Nat) : Int)) (v := .int (iZ (((bfs (mg S s) (24 * b + a) (S.2.2 2) n) (((24 * d) + c)))))) (by omega) rfl dX3_steps_325 ?_
      refine pb_if_ge C dX3_steps_326 (x := ((bfs (mg S s) (24 * b + a) (S.2.2 2) n) (((24 * d) + c)))) (tgt := 337) (by decide) (by omega) (fun c326_ => ?_) (fun c326_ => ?_)
      · refine pb_aload_n C dX3_steps_337 rfl (lv_at hl 0 rfl) ?_
        refine pb_get C in_X3 hO.r (ci := 2) rfl 8 (by decide) q1745 (fun _ h9 => h9) (v := .ref (o + 7)) rfl dX3_steps_338 ?_
        refine pb_bip C dX3_steps_341 (by decide) ?_
        refine pb_iload C dX3_steps_343 (lv_at hl 5 rfl) ?_
        refine pb_imul C dX3_steps_345 ?_
        refine pb_iload C dX3_steps_346 (lv_at hl 4 rfl) ?_
        refine pb_iadd C dX3_steps_348 ?_
        refine pb_iald C hA7.b (i := ((((24 * d) + c) : Nat) : Int)) (v := .int (iZ (((bfs (mg S s) (24 * b + a) (S.2.2 2) n) (((24 * d) + c)))))) (by omega) rfl dX3_steps_349 ?_
        exact pb_iret C dX3_steps_350 (⟨_, rfl, n, Or.inl ⟨c326_, rfl, hM⟩, hF⟩)
      · refine pb_aload_n C dX3_steps_329 rfl (lv_at hl 0 rfl) ?_
        refine pb_ic C dX3_steps_330 ?_
        refine pb_go_i (bc' := 0) (bs' := 0) (pb_runV (rest := []) C hG (met_X3_fail l o (mC (mI S 0 0) 2 (bfs (mg S s) (24 * b + a) (S.2.2 2) n)) hM 3) hO.r (ci := 2) rfl (lw_V q1836 q1838 qs29 q60 q1839) ⟨rfl, hdX3_fail⟩ rfl hl.1 rfl (Nat.le_of_ble_eq_true rfl) ⟨(Nat.le_of_ble_eq_true rfl), (Nat.le_of_ble_eq_true rfl)⟩ dX3_steps_331) (by omega) (by omega) (fun z_ H_ hp_ => ?_)
        obtain ⟨rfl, hM, hF2⟩ := hp_
        have hF := hF.tr hF2
        refine pb_goto C dX3_steps_334 (tgt := 350) (by decide) ?_
        exact pb_iret C dX3_steps_350 (⟨_, rfl, n, Or.inr ⟨hst c118_, by omega, rfl, hM⟩, hF⟩)
    · have hb1m : (bI m).toNat = 1 := by rw [c118_]; rfl
      refine pb_aload_n C dX3_steps_121 rfl (lv_at hl 0 rfl) ?_
      refine pb_get C in_X3 hO.r (ci := 2) rfl 8 (by decide) q1745 (fun _ h9 => h9) (v := .ref (o + 7)) rfl dX3_steps_122 ?_
      refine pb_bip C dX3_steps_125 (by decide) ?_
      refine pb_iload C dX3_steps_127 (lv_at hl 5 rfl) ?_
      refine pb_imul C dX3_steps_129 ?_
      refine pb_iload C dX3_steps_130 (lv_at hl 4 rfl) ?_
      refine pb_iadd C dX3_steps_132 ?_
      refine pb_iald C hA7.b (i := ((((24 * d) + c) : Nat) : Int)) (v := .int (iZ (((bfs (mg S s) (24 * b + a) (S.2.2 2) n) (((24 * d) + c)))))) (by omega) rfl dX3_steps_133 ?_
      refine pb_if_ge C dX3_steps_134 (x := ((bfs (mg S s) (24 * b + a) (S.2.2 2) n) (((24 * d) + c)))) (tgt := 313) (by decide) (by omega) (fun c134_ => ?_) (fun c134_ => ?_)
      · refine pb_aload_n C dX3_steps_313 rfl (lv_at hl 0 rfl) ?_
        refine pb_get C in_X3 hO.r (ci := 2) rfl 8 (by decide) q1745 (fun _ h9 => h9) (v := .ref (o + 7)) rfl dX3_steps_314 ?_
        refine pb_bip C dX3_steps_317 (by decide) ?_
        refine pb_iload C dX3_steps_319 (lv_at hl 5 rfl) ?_
        refine pb_imul C dX3_steps_321 ?_
        refine pb_iload C dX3_steps_322 (lv_at hl 4 rfl) ?_
        refine pb_iadd C dX3_steps_324 ?_
        refine pb_iald C hA7.b (i := ((((24 * d) + c) : Nat) : Int)) (v := .int (iZ (((bfs (mg S s) (24 * b + a) (S.2.2 2) n) (((24 * d) + c)))))) (by omega) rfl dX3_steps_325 ?_
        refine pb_if_ge C dX3_steps_326 (x := ((bfs (mg S s) (24 * b + a) (S.2.2 2) n) (((24 * d) + c)))) (tgt := 337) (by decide) (by omega) (fun c326_ => ?_) (fun c326_ => ?_)
        · refine pb_aload_n C dX3_steps_337 rfl (lv_at hl 0 rfl) ?_
          refine pb_get C in_X3 hO.r (ci := 2) rfl 8 (by decide) q1745 (fun _ h9 => h9) (v := .ref (o + 7)) rfl dX3_steps_338 ?_
          refine pb_bip C dX3_steps_341 (by decide) ?_
          refine pb_iload C dX3_steps_343 (lv_at hl 5 rfl) ?_
          refine pb_imul C dX3_steps_345 ?_
          refine pb_iload C dX3_steps_346 (lv_at hl 4 rfl) ?_
          refine pb_iadd C dX3_steps_348 ?_
          refine pb_iald C hA7.b (i := ((((24 * d) + c) : Nat) : Int)) (v := .int (iZ (((bfs (mg S s) (24 * b + a) (S.2.2 2) n) (((24 * d) + c)))))) (by omega) rfl dX3_steps_349 ?_
          exact pb_iret C dX3_steps_350 (⟨_, rfl, n, Or.inl ⟨c326_, rfl, hM⟩, hF⟩)
        · refine pb_aload_n C dX3_steps_329 rfl (lv_at hl 0 rfl) ?_
          refine pb_ic C dX3_steps_330 ?_
          refine pb_go_i (bc' := 0) (bs' := 0) (pb_runV (rest := []) C hG (met_X3_fail l o (mC (mI S 0 0) 2 (bfs (mg S s) (24 * b + a) (S.2.2 2) n)) hM 3) hO.r (ci := 2) rfl (lw_V q1836 q1838 qs29 q60 q1839) ⟨rfl, hdX3_fail⟩ rfl hl.1 rfl (Nat.le_of_ble_eq_true rfl) ⟨(Nat.le_of_ble_eq_true rfl), (Nat.le_of_ble_eq_true rfl)⟩ dX3_steps_331) (by omega) (by omega) (fun z_ H_ hp_ => ?_)
          obtain ⟨rfl, hM, hF2⟩ := hp_
          have hF := hF.tr hF2
          refine pb_goto C dX3_steps_334 (tgt := 350) (by decide) ?_
          exact pb_iret C dX3_steps_350 (absurd c134_ (by omega))
      · refine pb_ic C dX3_steps_137 ?_
        refine pb_istore C dX3_steps_138 hl (by decide) rfl fun ls hl => ?_
        have hl : lv_has ls 12 [(7, .int (iZ (0))), (0, .ref (o)), (1, .int (iZ (((s : Nat) : Int)))), (2, .int (iZ (((a : Nat) : Int)))), (3, .int (iZ (((b : Nat) : Int)))), (4, .int (iZ (((c : Nat) : Int)))), (5, .int (iZ (((d : Nat) : Int)))), (6, .int (iZ (((n : Nat) : Int))))] := hl
        refine pb_ic C dX3_steps_140 ?_
        refine pb_istore C dX3_steps_141 hl (by decide) rfl fun ls hl => ?_
        have hl : lv_has ls 12 [(8, .int (iZ (0))), (7, .int (iZ (0))), (0, .ref (o)), (1, .int (iZ (((s : Nat) : Int)))), (2, .int (iZ (((a : Nat) : Int)))), (3, .int (iZ (((b : Nat) : Int)))), (4, .int (iZ (((c : Nat) : Int)))), (5, .int (iZ (((d : Nat) : Int)))), (6, .int (iZ (((n : Nat) : Int))))] := hl
        exact pb_V.mono (by omega) (by omega) (L143 _ 0 false H rfl hG (by rw [mdZ_0]; exact hM) hF (by omega) (by omega) (by omega) stM_0 ls (lv_sub hl [2, 3, 4, 5, 6, 7, 8, 1, 0] rfl))
  have L76 : ∀ (n_ : Nat) (k : Nat) (H : Heap), 576 - k = n_ → (pb_G w s_ H) → (MW w H o (mC (mI S 0 0) 2 (mdZ (fun _ => -1) (S.2.2 2) k))) → (mF o H0 H) → (k ≤ 576) → ∀ (ls : Array Slot), lv_has ls 12 [(0, .ref (o)), (1, .int (iZ (((s : Nat) : Int)))), (2, .int (iZ (((a : Nat) : Int)))), (3, .int (iZ (((b : Nat) : Int)))), (4, .int (iZ (((c : Nat) : Int)))), (5, .int (iZ (((d : Nat) : Int)))), (6, .int (iZ (((k : Nat) : Int))))] → pb_V w.2.2.2 p_ l e_ (pb_rm 6 (0) (0)) s_ m_ ar_ bl_ me_ co_ H (0) (0) (pb_E w bl_ ar_ s_ (0) (0) (pb_qi (fun z H1 => ∃ n : Nat, ((0 ≤ (bfs (mg S s) (24 * b + a) (S.2.2 2) n) (24 * d + c) ∧ z = (bfs (mg S s) (24 * b + a) (S.2.2 2) n) (24 * d + c) ∧ MW w H1 o (mC (mI S 0 0) 2 (bfs (mg S s) (24 * b + a) (S.2.2 2) n))) ∨ (bfs (mg S s) (24 * b + a) (S.2.2 2) (n + 1) = (bfs (mg S s) (24 * b + a) (S.2.2 2) n) ∧ (bfs (mg S s) (24 * b + a) (S.2.2 2) n) (24 * d + c) < 0 ∧ z = 0 ∧ MW w H1 o (mI (mC (mI S 0 0) 2 (bfs (mg S s) (24 * b + a) (S.2.2 2) n)) 0 3))) ∧ mF o H0 H1))) (F0 m_ 76 ls []) := by
    intro n_
    induction n_ using Nat.strongRecOn with
    | _ n_ ih76 =>
    intro k H hm_ hG hM hF hk ls hl
    have hM0 := hM; obtain ⟨hz, hO, hA1, hA2, hA3, hA4, hA5, hA6, hA7, hA8, hA9, hA10, hA11, hA12⟩ := hM0
    have hO : pb_O w H o 2 [.int (iZ ((0))), .int (iZ ((S.1 1))), .ref (o + 1), .ref (o + 2), .ref (o + 3), .ref (o + 4), .ref (o + 5), .ref (o + 6), .ref (o + 7), .ref (o + 8), .ref (o + 9), .ref (o + 10), .ref (o + 11), .ref (o + 12), .int (iZ ((S.1 2))), .int (iZ ((S.1 3)))] := hO
    have hA1 : pb_A w H (o + 1) 0 192 (pb_nf (S.2.1 0)) := hA1
    have hA2 : pb_A w H (o + 2) 0 24 (pb_nf (S.2.1 1)) := hA2
    have hA3 : pb_A w H (o + 3) 0 26 (pb_nf (S.2.1 2)) := hA3
    have hA4 : pb_A w H (o + 4) 0 26 (pb_nf (S.2.1 3)) := hA4
    have hA5 : pb_A w H (o + 5) 0 40 (pb_zf (S.2.2 0)) := hA5
    have hA6 : pb_A w H (o + 6) 0 40 (pb_zf (S.2.2 1)) := hA6
    have hA7 : pb_A w H (o + 7) 0 576 (pb_zf (mdZ (fun _ => -1) (S.2.2 2) k)) := hA7
    have hA8 : pb_A w H (o + 8) 0 1300 (pb_zf (S.2.2 3)) := hA8
    have hA9 : pb_A w H (o + 9) 0 1300 (pb_zf (S.2.2 4)) := hA9
    have hA10 : pb_A w H (o + 10) 0 400 (pb_zf (S.2.2 5)) := hA10
    have hA11 : pb_A w H (o + 11) 0 400 (pb_zf (S.2.2 6)) := hA11
    have hA12 : pb_A w H (o + 12) 0 625 (pb_nf (S.2.1 4)) := hA12
    refine pb_iload C dX3_steps_76 (lv_at hl 6 rfl) ?_
    refine pb_sip C dX3_steps_78 (by decide) ?_
    refine pb_icmp_ge C dX3_steps_81 (x := ((k : Nat) : Int)) (y := 576) (tgt := 98) (by decide) (by omega) (by omega) (fun c81_ => ?_) (fun c81_ => ?_)
    · obtain rfl : k = 576 := by omega
      refine pb_aload_n C dX3_steps_98 rfl (lv_at hl 0 rfl) ?_
      refine pb_get C in_X3 hO.r (ci := 2) rfl 8 (by decide) q1745 (fun _ h9 => h9) (v := .ref (o + 7)) rfl dX3_steps_99 ?_
      refine pb_bip C dX3_steps_102 (by decide) ?_
      refine pb_iload_n C dX3_steps_104 rfl (lv_at hl 3 rfl) ?_
      refine pb_imul C dX3_steps_105 ?_
      refine pb_iload_n C dX3_steps_106 rfl (lv_at hl 2 rfl) ?_
      refine pb_iadd C dX3_steps_107 ?_
      refine pb_ic C dX3_steps_108 ?_
      refine pb_iast C hA7 (i := ((((24 * b) + a) : Nat) : Int)) (by omega) (by omega) dX3_steps_109 fun H2_ hu_ hA7 => ?_
      rw [pb_upZ, Int.toNat_natCast, show va_up (mdZ (fun _ => -1) (S.2.2 2) 576) (24 * b + a) 0 = bfs (mg S s) (24 * b + a) (S.2.2 2) 0 from rfl] at hA7
      have hG := hG.kept (hu_.z (by omega))
      have hO := hO.kept (hu_.2 _ (by omega))
      have hA1 := hA1.kept (hu_.2 _ (by omega))
      have hA2 := hA2.kept (hu_.2 _ (by omega))
      have hA3 := hA3.kept (hu_.2 _ (by omega))
      have hA4 := hA4.kept (hu_.2 _ (by omega))
      have hA5 := hA5.kept (hu_.2 _ (by omega))
      have hA6 := hA6.kept (hu_.2 _ (by omega))
      have hA8 := hA8.kept (hu_.2 _ (by omega))
      have hA9 := hA9.kept (hu_.2 _ (by omega))
      have hA10 := hA10.kept (hu_.2 _ (by omega))
      have hA11 := hA11.kept (hu_.2 _ (by omega))
      have hA12 := hA12.kept (hu_.2 _ (by omega))
      have hF := hF.up hu_ (by omega)
      refine pb_ic C dX3_steps_110 ?_
      refine pb_istore C dX3_steps_111 hl (by decide) rfl fun ls hl => ?_
      have hl : lv_has ls 12 [(6, .int (iZ (0))), (0, .ref (o)), (1, .int (iZ (((s : Nat) : Int)))), (2, .int (iZ (((a : Nat) : Int)))), (3, .int (iZ (((b : Nat) : Int)))), (4, .int (iZ (((c : Nat) : Int)))), (5, .int (iZ (((d : Nat) : Int))))] := hl
      refine pb_ic C dX3_steps_113 ?_
      refine pb_istore C dX3_steps_114 hl (by decide) rfl fun ls hl => ?_
      have hl : lv_has ls 12 [(7, .int (iZ (1))), (6, .int (iZ (0))), (0, .ref (o)), (1, .int (iZ (((s : Nat) : Int)))), (2, .int (iZ (((a : Nat) : Int)))), (3, .int (iZ (((b : Nat) : Int)))), (4, .int (iZ (((c : Nat) : Int)))), (5, .int (iZ (((d : Nat) : Int))))] := hl
      exact pb_V.mono (by omega) (by omega) (L116 _ 0 true H2_ rfl hG ⟨hz, hO, hA1, hA2, hA3, hA4, hA5, hA6, hA7, hA8, hA9, hA10, hA11, hA12⟩ hF (by have := nneg_0 (mg S s) (a := (24 * b + a)) (by omega) (S.2.2 2); show 0 + nneg _ + 1 ≤ 576; omega) (fun h => by cases h) ls (lv_sub hl [2, 3, 4, 5, 6, 7, 1, 0] rfl))
    · refine pb_aload_n C dX3_steps_84 rfl (lv_at hl 0 rfl) ?_
      refine pb_get C in_X3 hO.r (ci := 2) rfl 8 (by decide) q1745 (fun _ h9 => h9) (v := .ref (o + 7)) rfl dX3_steps_85 ?_
      refine pb_iload C dX3_steps_88 (lv_at hl 6 rfl) ?_
      refine pb_ic C dX3_steps_90 ?_
      refine pb_iast C hA7 (i := ((k : Nat) : Int)) (by omega) (by omega) dX3_steps_91 fun H3_ hu_ hA7 => ?_
      rw [pb_upZ, Int.toNat_natCast, mdZ_step (fun _ => -1) (S.2.2 2) k rfl] at hA7
      have hG := hG.kept (hu_.z (by omega))
      have hO := hO.kept (hu_.2 _ (by omega))
      have hA1 := hA1.kept (hu_.2 _ (by omega))
      have hA2 := hA2.kept (hu_.2 _ (by omega))
      have hA3 := hA3.kept (hu_.2 _ (by omega))
      have hA4 := hA4.kept (hu_.2 _ (by omega))
      have hA5 := hA5.kept (hu_.2 _ (by omega))
      have hA6 := hA6.kept (hu_.2 _ (by omega))
      have hA8 := hA8.kept (hu_.2 _ (by omega))
      have hA9 := hA9.kept (hu_.2 _ (by omega))
      have hA10 := hA10.kept (hu_.2 _ (by omega))
      have hA11 := hA11.kept (hu_.2 _ (by omega))
      have hA12 := hA12.kept (hu_.2 _ (by omega))
      have hF := hF.up hu_ (by omega)
      refine pb_iinc C dX3_steps_92 hl (j := 6) (x := (((k : Nat) : Int))) rfl (by decide) rfl fun ls hl => ?_
      have hl : lv_has ls 12 [(6, .int (iZ ((((k + 1) : Nat) : Int)))), (0, .ref (o)), (1, .int (iZ (((s : Nat) : Int)))), (2, .int (iZ (((a : Nat) : Int)))), (3, .int (iZ (((b : Nat) : Int)))), (4, .int (iZ (((c : Nat) : Int)))), (5, .int (iZ (((d : Nat) : Int))))] := hl
      refine pb_goto C dX3_steps_95 (tgt := 76) (by decide) ?_
      exact pb_V.mono (by omega) (by omega) (ih76 _ (by omega) (k + 1) H3_ rfl hG ⟨hz, hO, hA1, hA2, hA3, hA4, hA5, hA6, hA7, hA8, hA9, hA10, hA11, hA12⟩ hF (by omega) ls (lv_sub hl [1, 2, 3, 4, 5, 6, 0] rfl))
  refine pb_aload_n C dX3_steps_0 rfl (lv_at hl 0 rfl) ?_
  refine pb_iload_n C dX3_steps_1 rfl (lv_at hl 1 rfl) ?_
  refine pb_go_x (bc' := 0) (bs' := 0) (pb_runS (rest := [.ref (o)]) C hG (met_X3_isSheet l (((s : Nat) : Int)) (by omega)) (lw_S q1794 q1795 q60 q1796) hdX3_isSheet rfl hl.1 rfl (Nat.le_of_ble_eq_true rfl) ⟨(Nat.le_of_ble_eq_true rfl), (Nat.le_of_ble_eq_true rfl)⟩ dX3_steps_2) (by omega) (by omega) ?_
  refine pb_ifB_ne C dX3_steps_5 (tgt := 12) (by decide) (fun c5_ => ?_) (fun c5_ => ?_)
  · have c5_ := of_decide_eq_true c5_
    refine pb_iload_n C dX3_steps_12 rfl (lv_at hl 2 rfl) ?_
    refine pb_iload_n C dX3_steps_13 rfl (lv_at hl 3 rfl) ?_
    refine pb_go_x (bc' := 0) (bs' := 0) (pb_runS (rest := [.ref (o)]) C hG (met_X3_isCell l (((a : Nat) : Int)) (((b : Nat) : Int)) (by omega) (by omega)) (lw_S q1879 q1880 q60 q1881) hdX3_isCell rfl hl.1 rfl (Nat.le_of_ble_eq_true rfl) ⟨(Nat.le_of_ble_eq_true rfl), (Nat.le_of_ble_eq_true rfl)⟩ dX3_steps_14) (by omega) (by omega) ?_
    refine pb_ifB_eq C dX3_steps_17 (tgt := 30) (by decide) (fun c17_ => ?_) (fun c17_ => ?_)
    · have c17_ := of_decide_eq_false c17_
      omega
    · have c17_ := of_decide_eq_true c17_
      refine pb_iload C dX3_steps_20 (lv_at hl 4 rfl) ?_
      refine pb_iload C dX3_steps_22 (lv_at hl 5 rfl) ?_
      refine pb_go_x (bc' := 0) (bs' := 0) (pb_runS (rest := [.ref (o)]) C hG (met_X3_isCell l (((c : Nat) : Int)) (((d : Nat) : Int)) (by omega) (by omega)) (lw_S q1879 q1880 q60 q1881) hdX3_isCell rfl hl.1 rfl (Nat.le_of_ble_eq_true rfl) ⟨(Nat.le_of_ble_eq_true rfl), (Nat.le_of_ble_eq_true rfl)⟩ dX3_steps_24) (by omega) (by omega) ?_
      refine pb_ifB_ne C dX3_steps_27 (tgt := 34) (by decide) (fun c27_ => ?_) (fun c27_ => ?_)
      · have c27_ := of_decide_eq_true c27_
        refine pb_aload_n C dX3_steps_34 rfl (lv_at hl 0 rfl) ?_
        refine pb_iload_n C dX3_steps_35 rfl (lv_at hl 1 rfl) ?_
        refine pb_iload_n C dX3_steps_36 rfl (lv_at hl 2 rfl) ?_
        refine pb_iload_n C dX3_steps_37 rfl (lv_at hl 3 rfl) ?_
        refine pb_go_x (bc' := 0) (bs' := 0) (pb_runV (rest := [.ref (o)]) C hG (met_X3_has l o S ⟨hz, hO, hA1, hA2, hA3, hA4, hA5, hA6, hA7, hA8, hA9, hA10, hA11, hA12⟩ s hs hb (((a : Nat) : Int)) (((b : Nat) : Int)) (by omega) (by omega)) hO.r (ci := 2) rfl (lw_V q1875 q1877 qs35 q60 q1878) ⟨rfl, hdX3_has⟩ rfl hl.1 rfl (Nat.le_of_ble_eq_true rfl) ⟨(Nat.le_of_ble_eq_true rfl), (Nat.le_of_ble_eq_true rfl)⟩ dX3_steps_38) (by omega) (by omega) ?_
        refine pb_ifB_eq C dX3_steps_41 (tgt := 56) (by decide) (fun c41_ => ?_) (fun c41_ => ?_)
        · rw [gc_nat, hf] at c41_; cases c41_
        · refine pb_aload_n C dX3_steps_44 rfl (lv_at hl 0 rfl) ?_
          refine pb_iload_n C dX3_steps_45 rfl (lv_at hl 1 rfl) ?_
          refine pb_iload C dX3_steps_46 (lv_at hl 4 rfl) ?_
          refine pb_iload C dX3_steps_48 (lv_at hl 5 rfl) ?_
          refine pb_go_x (bc' := 0) (bs' := 0) (pb_runV (rest := [.ref (o)]) C hG (met_X3_has l o S ⟨hz, hO, hA1, hA2, hA3, hA4, hA5, hA6, hA7, hA8, hA9, hA10, hA11, hA12⟩ s hs hb (((c : Nat) : Int)) (((d : Nat) : Int)) (by omega) (by omega)) hO.r (ci := 2) rfl (lw_V q1875 q1877 qs35 q60 q1878) ⟨rfl, hdX3_has⟩ rfl hl.1 rfl (Nat.le_of_ble_eq_true rfl) ⟨(Nat.le_of_ble_eq_true rfl), (Nat.le_of_ble_eq_true rfl)⟩ dX3_steps_50) (by omega) (by omega) ?_
          refine pb_ifB_ne C dX3_steps_53 (tgt := 60) (by decide) (fun c53_ => ?_) (fun c53_ => ?_)
          · refine pb_ic C dX3_steps_60 ?_
            refine pb_put C in_X3 tyX3 tyX3_ok nmX3 hO (ci := 2) rfl 0 (by decide) q1737 (fun _ h9 => h9) rfl (v := .int (iZ (0))) rfl rfl (Nat.le_of_ble_eq_true rfl) (by omega) dX3_steps_61 fun H4_ hu_ hO => ?_
            have hO : pb_O w H4_ (o) 2 [.int (iZ (0)), .int (iZ ((S.1 1))), .ref (o + 1), .ref (o + 2), .ref (o + 3), .ref (o + 4), .ref (o + 5), .ref (o + 6), .ref (o + 7), .ref (o + 8), .ref (o + 9), .ref (o + 10), .ref (o + 11), .ref (o + 12), .int (iZ ((S.1 2))), .int (iZ ((S.1 3)))] := hO
            have hG := hG.kept (hu_.z (by omega))
            have hA1 := hA1.kept (hu_.2 _ (by omega))
            have hA2 := hA2.kept (hu_.2 _ (by omega))
            have hA3 := hA3.kept (hu_.2 _ (by omega))
            have hA4 := hA4.kept (hu_.2 _ (by omega))
            have hA5 := hA5.kept (hu_.2 _ (by omega))
            have hA6 := hA6.kept (hu_.2 _ (by omega))
            have hA7 := hA7.kept (hu_.2 _ (by omega))
            have hA8 := hA8.kept (hu_.2 _ (by omega))
            have hA9 := hA9.kept (hu_.2 _ (by omega))
            have hA10 := hA10.kept (hu_.2 _ (by omega))
            have hA11 := hA11.kept (hu_.2 _ (by omega))
            have hA12 := hA12.kept (hu_.2 _ (by omega))
            have hF := hF.up hu_ (by omega)
            refine pb_aload_n C dX3_steps_64 rfl (lv_at hl 0 rfl) ?_
            refine pb_get C in_X3 hO.r (ci := 2) rfl 0 (by decide) q1737 (fun _ h9 => h9) (v := .int (iZ (0))) rfl dX3_steps_65 ?_
            refine pb_if_eq C dX3_steps_68 (x := 0) (tgt := 73) (by decide) (by omega) (fun c68_ => ?_) (fun c68_ => ?_)
            · refine pb_ic C dX3_steps_73 ?_
              refine pb_istore C dX3_steps_74 hl (by decide) rfl fun ls hl => ?_
              have hl : lv_has ls 12 [(6, .int (iZ (0))), (0, .ref (o)), (1, .int (iZ (((s : Nat) : Int)))), (2, .int (iZ (((a : Nat) : Int)))), (3, .int (iZ (((b : Nat) : Int)))), (4, .int (iZ (((c : Nat) : Int)))), (5, .int (iZ (((d : Nat) : Int))))] := hl
              exact pb_V.mono (by omega) (by omega) (L76 _ 0 H4_ rfl hG (by rw [mdZ_0, show mC (mI S 0 0) 2 (S.2.2 2) = mI S 0 0 from mC_self (mI S 0 0) 2]; exact ⟨hz, hO, hA1, hA2, hA3, hA4, hA5, hA6, hA7, hA8, hA9, hA10, hA11, hA12⟩) hF (by omega) ls (lv_sub hl [1, 2, 3, 4, 5, 6, 0] rfl))
            · exact absurd c68_ (by decide)
          · rw [gc_nat, ht] at c53_; cases c53_
      · have c27_ := of_decide_eq_false c27_
        omega
  · have c5_ := of_decide_eq_false c5_
    omega

set_option maxHeartbeats 1000000 in
theorem met_X3_stepsByRows {w : pb_W} (l : Launch) {H0 : Heap} (o : Nat) (S : mS) (hM : MW w H0 o S) (s : Nat) (hs : s < 8) (hb : mok S) (a b c d : Nat) (ha : a < 24) (hb1 : b < 24) (hc : c < 24) (hd : d < 24) (hf : (mg S s b).testBit a = true) (ht : (mg S s d).testBit c = true) : pb_M w l yX3_stepsByRows cX3_stepsByRows 6 (some .int) 7 (0) (0) [.ref (o), .int (iZ (((s : Nat) : Int))), .int (iZ (((a : Nat) : Int))), .int (iZ (((b : Nat) : Int))), .int (iZ (((c : Nat) : Int))), .int (iZ (((d : Nat) : Int)))] H0 (pb_qi (fun z H1 => ∃ n : Nat, ((0 ≤ (bfs (mg S s) (24 * b + a) (S.2.2 2) n) (24 * d + c) ∧ z = (bfs (mg S s) (24 * b + a) (S.2.2 2) n) (24 * d + c) ∧ MW w H1 o (mC (mI S 0 0) 2 (bfs (mg S s) (24 * b + a) (S.2.2 2) n))) ∨ (bfs (mg S s) (24 * b + a) (S.2.2 2) (n + 1) = (bfs (mg S s) (24 * b + a) (S.2.2 2) n) ∧ (bfs (mg S s) (24 * b + a) (S.2.2 2) n) (24 * d + c) < 0 ∧ z = 0 ∧ MW w H1 o (mI (mC (mI S 0 0) 2 (bfs (mg S s) (24 * b + a) (S.2.2 2) n)) 0 3))) ∧ mF o H0 H1)) := by
  refine pb_of (by decide +kernel) (Nat.le_of_ble_eq_true rfl) ?_
  intro p_ e_ s_ m_ ar_ bl_ me_ co_ ls C hh hG hl
  have hl : lv_has ls 6 [(0, .ref (o)), (1, .int (iZ (((s : Nat) : Int)))), (2, .int (iZ (((a : Nat) : Int)))), (3, .int (iZ (((b : Nat) : Int)))), (4, .int (iZ (((c : Nat) : Int)))), (5, .int (iZ (((d : Nat) : Int))))] := hl
  have hM0 := hM; obtain ⟨hz, hO, hA1, hA2, hA3, hA4, hA5, hA6, hA7, hA8, hA9, hA10, hA11, hA12⟩ := hM0
  have hF : mF o H0 H0 := mF.rf
  refine pb_aload_n C dX3_stepsByRows_0 rfl (lv_at hl 0 rfl) ?_
  refine pb_iload_n C dX3_stepsByRows_1 rfl (lv_at hl 1 rfl) ?_
  refine pb_iload_n C dX3_stepsByRows_2 rfl (lv_at hl 2 rfl) ?_
  refine pb_iload_n C dX3_stepsByRows_3 rfl (lv_at hl 3 rfl) ?_
  refine pb_iload C dX3_stepsByRows_4 (lv_at hl 4 rfl) ?_
  refine pb_iload C dX3_stepsByRows_6 (lv_at hl 5 rfl) ?_
  refine pb_go_i (bc' := 0) (bs' := 0) (pb_runV (rest := []) C hG (met_X3_steps l o S hM s hs hb a b c d ha hb1 hc hd hf ht) hO.r (ci := 2) rfl (lw_V q2046 q2039 q2040 q60 q2041) ⟨rfl, hdX3_steps⟩ rfl hl.1 rfl (Nat.le_of_ble_eq_true rfl) ⟨(Nat.le_of_ble_eq_true rfl), (Nat.le_of_ble_eq_true rfl)⟩ dX3_stepsByRows_8) (by omega) (by omega) (fun z_ H_ hp_ => ?_)
  exact pb_iret C dX3_stepsByRows_11 (⟨_, rfl, hp_⟩)

set_option maxHeartbeats 1000000 in
theorem met_X3_steps_1 {w : pb_W} (l : Launch) {H0 : Heap} (o : Nat) (S : mS) (hM : MW w H0 o S) (s : Int) (hsr : -2147483648 ≤ s ∧ s ≤ 2147483647) (hs : ¬ (0 ≤ s ∧ s ≤ 7)) (a b c d : Int) (ha : -2147483648 ≤ a ∧ a ≤ 2147483647) (hb1 : -2147483648 ≤ b ∧ b ≤ 2147483647) (hc : -2147483648 ≤ c ∧ c ≤ 2147483647) (hd : -2147483648 ≤ d ∧ d ≤ 2147483647) : pb_M w l yX3_steps cX3_steps 12 (some .int) 6 (0) (0) [.ref (o), .int (iZ (s)), .int (iZ (a)), .int (iZ (b)), .int (iZ (c)), .int (iZ (d))] H0 (pb_qi (fun z H1 => z = 0 ∧ MW w H1 o (mI S 0 1) ∧ mF o H0 H1)) := by
  refine pb_of (by decide +kernel) (Nat.le_of_ble_eq_true rfl) ?_
  intro p_ e_ s_ m_ ar_ bl_ me_ co_ ls C hh hG hl
  have hl : lv_has ls 12 [(0, .ref (o)), (1, .int (iZ (s))), (2, .int (iZ (a))), (3, .int (iZ (b))), (4, .int (iZ (c))), (5, .int (iZ (d)))] := hl
  have hM0 := hM; obtain ⟨hz, hO, hA1, hA2, hA3, hA4, hA5, hA6, hA7, hA8, hA9, hA10, hA11, hA12⟩ := hM0
  have hF : mF o H0 H0 := mF.rf
  refine pb_aload_n C dX3_steps_0 rfl (lv_at hl 0 rfl) ?_
  refine pb_iload_n C dX3_steps_1 rfl (lv_at hl 1 rfl) ?_
  refine pb_go_x (bc' := 0) (bs' := 0) (pb_runS (rest := [.ref (o)]) C hG (met_X3_isSheet l s (by omega)) (lw_S q1794 q1795 q60 q1796) hdX3_isSheet rfl hl.1 rfl (Nat.le_of_ble_eq_true rfl) ⟨(Nat.le_of_ble_eq_true rfl), (Nat.le_of_ble_eq_true rfl)⟩ dX3_steps_2) (by omega) (by omega) ?_
  refine pb_ifB_ne C dX3_steps_5 (tgt := 12) (by decide) (fun c5_ => ?_) (fun c5_ => ?_)
  · have c5_ := of_decide_eq_true c5_
    omega
  · have c5_ := of_decide_eq_false c5_
    refine pb_ic C dX3_steps_8 ?_
    refine pb_goto C dX3_steps_9 (tgt := 61) (by decide) ?_
    refine pb_put C in_X3 tyX3 tyX3_ok nmX3 hO (ci := 2) rfl 0 (by decide) q1737 (fun _ h9 => h9) rfl (v := .int (iZ (1))) rfl rfl (Nat.le_of_ble_eq_true rfl) (by omega) dX3_steps_61 fun H1_ hu_ hO => ?_
    have hO : pb_O w H1_ (o) 2 [.int (iZ (1)), .int (iZ ((S.1 1))), .ref (o + 1), .ref (o + 2), .ref (o + 3), .ref (o + 4), .ref (o + 5), .ref (o + 6), .ref (o + 7), .ref (o + 8), .ref (o + 9), .ref (o + 10), .ref (o + 11), .ref (o + 12), .int (iZ ((S.1 2))), .int (iZ ((S.1 3)))] := hO
    have hG := hG.kept (hu_.z (by omega))
    have hA1 := hA1.kept (hu_.2 _ (by omega))
    have hA2 := hA2.kept (hu_.2 _ (by omega))
    have hA3 := hA3.kept (hu_.2 _ (by omega))
    have hA4 := hA4.kept (hu_.2 _ (by omega))
    have hA5 := hA5.kept (hu_.2 _ (by omega))
    have hA6 := hA6.kept (hu_.2 _ (by omega))
    have hA7 := hA7.kept (hu_.2 _ (by omega))
    have hA8 := hA8.kept (hu_.2 _ (by omega))
    have hA9 := hA9.kept (hu_.2 _ (by omega))
    have hA10 := hA10.kept (hu_.2 _ (by omega))
    have hA11 := hA11.kept (hu_.2 _ (by omega))
    have hA12 := hA12.kept (hu_.2 _ (by omega))
    have hF := hF.up hu_ (by omega)
    refine pb_aload_n C dX3_steps_64 rfl (lv_at hl 0 rfl) ?_
    refine pb_get C in_X3 hO.r (ci := 2) rfl 0 (by decide) q1737 (fun _ h9 => h9) (v := .int (iZ (1))) rfl dX3_steps_65 ?_
    refine pb_if_eq C dX3_steps_68 (x := 1) (tgt := 73) (by decide) (by omega) (fun c68_ => ?_) (fun c68_ => ?_)
    · exact absurd c68_ (by decide)
    · refine pb_ic C dX3_steps_71 ?_
      exact pb_iret C dX3_steps_72 (⟨_, rfl, rfl, ⟨hz, hO, hA1, hA2, hA3, hA4, hA5, hA6, hA7, hA8, hA9, hA10, hA11, hA12⟩, hF⟩)

set_option maxHeartbeats 1000000 in
theorem met_X3_steps_2 {w : pb_W} (l : Launch) {H0 : Heap} (o : Nat) (S : mS) (hM : MW w H0 o S) (s : Nat) (hs : s < 8) (a b c d : Int) (ha : -2147483648 ≤ a ∧ a ≤ 2147483647) (hb1 : -2147483648 ≤ b ∧ b ≤ 2147483647) (hc : -2147483648 ≤ c ∧ c ≤ 2147483647) (hd : -2147483648 ≤ d ∧ d ≤ 2147483647) (hn : ¬ (((0 ≤ a ∧ a ≤ 23) ∧ 0 ≤ b ∧ b ≤ 23) ∧ (0 ≤ c ∧ c ≤ 23) ∧ 0 ≤ d ∧ d ≤ 23)) : pb_M w l yX3_steps cX3_steps 12 (some .int) 6 (0) (0) [.ref (o), .int (iZ (((s : Nat) : Int))), .int (iZ (a)), .int (iZ (b)), .int (iZ (c)), .int (iZ (d))] H0 (pb_qi (fun z H1 => z = 0 ∧ MW w H1 o (mI S 0 2) ∧ mF o H0 H1)) := by
  refine pb_of (by decide +kernel) (Nat.le_of_ble_eq_true rfl) ?_
  intro p_ e_ s_ m_ ar_ bl_ me_ co_ ls C hh hG hl
  have hl : lv_has ls 12 [(0, .ref (o)), (1, .int (iZ (((s : Nat) : Int)))), (2, .int (iZ (a))), (3, .int (iZ (b))), (4, .int (iZ (c))), (5, .int (iZ (d)))] := hl
  have hM0 := hM; obtain ⟨hz, hO, hA1, hA2, hA3, hA4, hA5, hA6, hA7, hA8, hA9, hA10, hA11, hA12⟩ := hM0
  have hF : mF o H0 H0 := mF.rf
  refine pb_aload_n C dX3_steps_0 rfl (lv_at hl 0 rfl) ?_
  refine pb_iload_n C dX3_steps_1 rfl (lv_at hl 1 rfl) ?_
  refine pb_go_x (bc' := 0) (bs' := 0) (pb_runS (rest := [.ref (o)]) C hG (met_X3_isSheet l (((s : Nat) : Int)) (by omega)) (lw_S q1794 q1795 q60 q1796) hdX3_isSheet rfl hl.1 rfl (Nat.le_of_ble_eq_true rfl) ⟨(Nat.le_of_ble_eq_true rfl), (Nat.le_of_ble_eq_true rfl)⟩ dX3_steps_2) (by omega) (by omega) ?_
  refine pb_ifB_ne C dX3_steps_5 (tgt := 12) (by decide) (fun c5_ => ?_) (fun c5_ => ?_)
  · have c5_ := of_decide_eq_true c5_
    refine pb_iload_n C dX3_steps_12 rfl (lv_at hl 2 rfl) ?_
    refine pb_iload_n C dX3_steps_13 rfl (lv_at hl 3 rfl) ?_
    refine pb_go_x (bc' := 0) (bs' := 0) (pb_runS (rest := [.ref (o)]) C hG (met_X3_isCell l a b (by omega) (by omega)) (lw_S q1879 q1880 q60 q1881) hdX3_isCell rfl hl.1 rfl (Nat.le_of_ble_eq_true rfl) ⟨(Nat.le_of_ble_eq_true rfl), (Nat.le_of_ble_eq_true rfl)⟩ dX3_steps_14) (by omega) (by omega) ?_
    refine pb_ifB_eq C dX3_steps_17 (tgt := 30) (by decide) (fun c17_ => ?_) (fun c17_ => ?_)
    · have c17_ := of_decide_eq_false c17_
      refine pb_ic C dX3_steps_30 ?_
      refine pb_goto C dX3_steps_31 (tgt := 61) (by decide) ?_
      refine pb_put C in_X3 tyX3 tyX3_ok nmX3 hO (ci := 2) rfl 0 (by decide) q1737 (fun _ h9 => h9) rfl (v := .int (iZ (2))) rfl rfl (Nat.le_of_ble_eq_true rfl) (by omega) dX3_steps_61 fun H1_ hu_ hO => ?_
      have hO : pb_O w H1_ (o) 2 [.int (iZ (2)), .int (iZ ((S.1 1))), .ref (o + 1), .ref (o + 2), .ref (o + 3), .ref (o + 4), .ref (o + 5), .ref (o + 6), .ref (o + 7), .ref (o + 8), .ref (o + 9), .ref (o + 10), .ref (o + 11), .ref (o + 12), .int (iZ ((S.1 2))), .int (iZ ((S.1 3)))] := hO
      have hG := hG.kept (hu_.z (by omega))
      have hA1 := hA1.kept (hu_.2 _ (by omega))
      have hA2 := hA2.kept (hu_.2 _ (by omega))
      have hA3 := hA3.kept (hu_.2 _ (by omega))
      have hA4 := hA4.kept (hu_.2 _ (by omega))
      have hA5 := hA5.kept (hu_.2 _ (by omega))
      have hA6 := hA6.kept (hu_.2 _ (by omega))
      have hA7 := hA7.kept (hu_.2 _ (by omega))
      have hA8 := hA8.kept (hu_.2 _ (by omega))
      have hA9 := hA9.kept (hu_.2 _ (by omega))
      have hA10 := hA10.kept (hu_.2 _ (by omega))
      have hA11 := hA11.kept (hu_.2 _ (by omega))
      have hA12 := hA12.kept (hu_.2 _ (by omega))
      have hF := hF.up hu_ (by omega)
      refine pb_aload_n C dX3_steps_64 rfl (lv_at hl 0 rfl) ?_
      refine pb_get C in_X3 hO.r (ci := 2) rfl 0 (by decide) q1737 (fun _ h9 => h9) (v := .int (iZ (2))) rfl dX3_steps_65 ?_
      refine pb_if_eq C dX3_steps_68 (x := 2) (tgt := 73) (by decide) (by omega) (fun c68_ => ?_) (fun c68_ => ?_)
      · exact absurd c68_ (by decide)
      · refine pb_ic C dX3_steps_71 ?_
        exact pb_iret C dX3_steps_72 (⟨_, rfl, rfl, ⟨hz, hO, hA1, hA2, hA3, hA4, hA5, hA6, hA7, hA8, hA9, hA10, hA11, hA12⟩, hF⟩)
    · have c17_ := of_decide_eq_true c17_
      refine pb_iload C dX3_steps_20 (lv_at hl 4 rfl) ?_
      refine pb_iload C dX3_steps_22 (lv_at hl 5 rfl) ?_
      refine pb_go_x (bc' := 0) (bs' := 0) (pb_runS (rest := [.ref (o)]) C hG (met_X3_isCell l c d (by omega) (by omega)) (lw_S q1879 q1880 q60 q1881) hdX3_isCell rfl hl.1 rfl (Nat.le_of_ble_eq_true rfl) ⟨(Nat.le_of_ble_eq_true rfl), (Nat.le_of_ble_eq_true rfl)⟩ dX3_steps_24) (by omega) (by omega) ?_
      refine pb_ifB_ne C dX3_steps_27 (tgt := 34) (by decide) (fun c27_ => ?_) (fun c27_ => ?_)
      · have c27_ := of_decide_eq_true c27_
        exact absurd ⟨c17_, c27_⟩ hn
      · have c27_ := of_decide_eq_false c27_
        refine pb_ic C dX3_steps_30 ?_
        refine pb_goto C dX3_steps_31 (tgt := 61) (by decide) ?_
        refine pb_put C in_X3 tyX3 tyX3_ok nmX3 hO (ci := 2) rfl 0 (by decide) q1737 (fun _ h9 => h9) rfl (v := .int (iZ (2))) rfl rfl (Nat.le_of_ble_eq_true rfl) (by omega) dX3_steps_61 fun H2_ hu_ hO => ?_
        have hO : pb_O w H2_ (o) 2 [.int (iZ (2)), .int (iZ ((S.1 1))), .ref (o + 1), .ref (o + 2), .ref (o + 3), .ref (o + 4), .ref (o + 5), .ref (o + 6), .ref (o + 7), .ref (o + 8), .ref (o + 9), .ref (o + 10), .ref (o + 11), .ref (o + 12), .int (iZ ((S.1 2))), .int (iZ ((S.1 3)))] := hO
        have hG := hG.kept (hu_.z (by omega))
        have hA1 := hA1.kept (hu_.2 _ (by omega))
        have hA2 := hA2.kept (hu_.2 _ (by omega))
        have hA3 := hA3.kept (hu_.2 _ (by omega))
        have hA4 := hA4.kept (hu_.2 _ (by omega))
        have hA5 := hA5.kept (hu_.2 _ (by omega))
        have hA6 := hA6.kept (hu_.2 _ (by omega))
        have hA7 := hA7.kept (hu_.2 _ (by omega))
        have hA8 := hA8.kept (hu_.2 _ (by omega))
        have hA9 := hA9.kept (hu_.2 _ (by omega))
        have hA10 := hA10.kept (hu_.2 _ (by omega))
        have hA11 := hA11.kept (hu_.2 _ (by omega))
        have hA12 := hA12.kept (hu_.2 _ (by omega))
        have hF := hF.up hu_ (by omega)
        refine pb_aload_n C dX3_steps_64 rfl (lv_at hl 0 rfl) ?_
        refine pb_get C in_X3 hO.r (ci := 2) rfl 0 (by decide) q1737 (fun _ h9 => h9) (v := .int (iZ (2))) rfl dX3_steps_65 ?_
        refine pb_if_eq C dX3_steps_68 (x := 2) (tgt := 73) (by decide) (by omega) (fun c68_ => ?_) (fun c68_ => ?_)
        · exact absurd c68_ (by decide)
        · refine pb_ic C dX3_steps_71 ?_
          exact pb_iret C dX3_steps_72 (⟨_, rfl, rfl, ⟨hz, hO, hA1, hA2, hA3, hA4, hA5, hA6, hA7, hA8, hA9, hA10, hA11, hA12⟩, hF⟩)
  · have c5_ := of_decide_eq_false c5_
    omega

set_option maxHeartbeats 1000000 in
theorem met_X3_steps_3 {w : pb_W} (l : Launch) {H0 : Heap} (o : Nat) (S : mS) (hM : MW w H0 o S) (s : Nat) (hs : s < 8) (hb : mok S) (a b c d : Int) (ha : -2147483648 ≤ a ∧ a ≤ 2147483647) (hb1 : -2147483648 ≤ b ∧ b ≤ 2147483647) (hc : -2147483648 ≤ c ∧ c ≤ 2147483647) (hd : -2147483648 ≤ d ∧ d ≤ 2147483647) (hn : ((0 ≤ a ∧ a ≤ 23) ∧ 0 ≤ b ∧ b ≤ 23) ∧ (0 ≤ c ∧ c ≤ 23) ∧ 0 ≤ d ∧ d ≤ 23) (hh_ : ¬ (gc (mg S s) a b = true ∧ gc (mg S s) c d = true)) : pb_M w l yX3_steps cX3_steps 12 (some .int) 6 (0) (0) [.ref (o), .int (iZ (((s : Nat) : Int))), .int (iZ (a)), .int (iZ (b)), .int (iZ (c)), .int (iZ (d))] H0 (pb_qi (fun z H1 => z = 0 ∧ MW w H1 o (mI S 0 3) ∧ mF o H0 H1)) := by
  refine pb_of (by decide +kernel) (Nat.le_of_ble_eq_true rfl) ?_
  intro p_ e_ s_ m_ ar_ bl_ me_ co_ ls C hh hG hl
  have hl : lv_has ls 12 [(0, .ref (o)), (1, .int (iZ (((s : Nat) : Int)))), (2, .int (iZ (a))), (3, .int (iZ (b))), (4, .int (iZ (c))), (5, .int (iZ (d)))] := hl
  have hM0 := hM; obtain ⟨hz, hO, hA1, hA2, hA3, hA4, hA5, hA6, hA7, hA8, hA9, hA10, hA11, hA12⟩ := hM0
  have hF : mF o H0 H0 := mF.rf
  refine pb_aload_n C dX3_steps_0 rfl (lv_at hl 0 rfl) ?_
  refine pb_iload_n C dX3_steps_1 rfl (lv_at hl 1 rfl) ?_
  refine pb_go_x (bc' := 0) (bs' := 0) (pb_runS (rest := [.ref (o)]) C hG (met_X3_isSheet l (((s : Nat) : Int)) (by omega)) (lw_S q1794 q1795 q60 q1796) hdX3_isSheet rfl hl.1 rfl (Nat.le_of_ble_eq_true rfl) ⟨(Nat.le_of_ble_eq_true rfl), (Nat.le_of_ble_eq_true rfl)⟩ dX3_steps_2) (by omega) (by omega) ?_
  refine pb_ifB_ne C dX3_steps_5 (tgt := 12) (by decide) (fun c5_ => ?_) (fun c5_ => ?_)
  · have c5_ := of_decide_eq_true c5_
    refine pb_iload_n C dX3_steps_12 rfl (lv_at hl 2 rfl) ?_
    refine pb_iload_n C dX3_steps_13 rfl (lv_at hl 3 rfl) ?_
    refine pb_go_x (bc' := 0) (bs' := 0) (pb_runS (rest := [.ref (o)]) C hG (met_X3_isCell l a b (by omega) (by omega)) (lw_S q1879 q1880 q60 q1881) hdX3_isCell rfl hl.1 rfl (Nat.le_of_ble_eq_true rfl) ⟨(Nat.le_of_ble_eq_true rfl), (Nat.le_of_ble_eq_true rfl)⟩ dX3_steps_14) (by omega) (by omega) ?_
    refine pb_ifB_eq C dX3_steps_17 (tgt := 30) (by decide) (fun c17_ => ?_) (fun c17_ => ?_)
    · have c17_ := of_decide_eq_false c17_
      omega
    · have c17_ := of_decide_eq_true c17_
      refine pb_iload C dX3_steps_20 (lv_at hl 4 rfl) ?_
      refine pb_iload C dX3_steps_22 (lv_at hl 5 rfl) ?_
      refine pb_go_x (bc' := 0) (bs' := 0) (pb_runS (rest := [.ref (o)]) C hG (met_X3_isCell l c d (by omega) (by omega)) (lw_S q1879 q1880 q60 q1881) hdX3_isCell rfl hl.1 rfl (Nat.le_of_ble_eq_true rfl) ⟨(Nat.le_of_ble_eq_true rfl), (Nat.le_of_ble_eq_true rfl)⟩ dX3_steps_24) (by omega) (by omega) ?_
      refine pb_ifB_ne C dX3_steps_27 (tgt := 34) (by decide) (fun c27_ => ?_) (fun c27_ => ?_)
      · have c27_ := of_decide_eq_true c27_
        refine pb_aload_n C dX3_steps_34 rfl (lv_at hl 0 rfl) ?_
        refine pb_iload_n C dX3_steps_35 rfl (lv_at hl 1 rfl) ?_
        refine pb_iload_n C dX3_steps_36 rfl (lv_at hl 2 rfl) ?_
        refine pb_iload_n C dX3_steps_37 rfl (lv_at hl 3 rfl) ?_
        refine pb_go_x (bc' := 0) (bs' := 0) (pb_runV (rest := [.ref (o)]) C hG (met_X3_has l o S ⟨hz, hO, hA1, hA2, hA3, hA4, hA5, hA6, hA7, hA8, hA9, hA10, hA11, hA12⟩ s hs hb a b (by omega) (by omega)) hO.r (ci := 2) rfl (lw_V q1875 q1877 qs35 q60 q1878) ⟨rfl, hdX3_has⟩ rfl hl.1 rfl (Nat.le_of_ble_eq_true rfl) ⟨(Nat.le_of_ble_eq_true rfl), (Nat.le_of_ble_eq_true rfl)⟩ dX3_steps_38) (by omega) (by omega) ?_
        refine pb_ifB_eq C dX3_steps_41 (tgt := 56) (by decide) (fun c41_ => ?_) (fun c41_ => ?_)
        · refine pb_ic C dX3_steps_56 ?_
          refine pb_goto C dX3_steps_57 (tgt := 61) (by decide) ?_
          refine pb_put C in_X3 tyX3 tyX3_ok nmX3 hO (ci := 2) rfl 0 (by decide) q1737 (fun _ h9 => h9) rfl (v := .int (iZ (3))) rfl rfl (Nat.le_of_ble_eq_true rfl) (by omega) dX3_steps_61 fun H1_ hu_ hO => ?_
          have hO : pb_O w H1_ (o) 2 [.int (iZ (3)), .int (iZ ((S.1 1))), .ref (o + 1), .ref (o + 2), .ref (o + 3), .ref (o + 4), .ref (o + 5), .ref (o + 6), .ref (o + 7), .ref (o + 8), .ref (o + 9), .ref (o + 10), .ref (o + 11), .ref (o + 12), .int (iZ ((S.1 2))), .int (iZ ((S.1 3)))] := hO
          have hG := hG.kept (hu_.z (by omega))
          have hA1 := hA1.kept (hu_.2 _ (by omega))
          have hA2 := hA2.kept (hu_.2 _ (by omega))
          have hA3 := hA3.kept (hu_.2 _ (by omega))
          have hA4 := hA4.kept (hu_.2 _ (by omega))
          have hA5 := hA5.kept (hu_.2 _ (by omega))
          have hA6 := hA6.kept (hu_.2 _ (by omega))
          have hA7 := hA7.kept (hu_.2 _ (by omega))
          have hA8 := hA8.kept (hu_.2 _ (by omega))
          have hA9 := hA9.kept (hu_.2 _ (by omega))
          have hA10 := hA10.kept (hu_.2 _ (by omega))
          have hA11 := hA11.kept (hu_.2 _ (by omega))
          have hA12 := hA12.kept (hu_.2 _ (by omega))
          have hF := hF.up hu_ (by omega)
          refine pb_aload_n C dX3_steps_64 rfl (lv_at hl 0 rfl) ?_
          refine pb_get C in_X3 hO.r (ci := 2) rfl 0 (by decide) q1737 (fun _ h9 => h9) (v := .int (iZ (3))) rfl dX3_steps_65 ?_
          refine pb_if_eq C dX3_steps_68 (x := 3) (tgt := 73) (by decide) (by omega) (fun c68_ => ?_) (fun c68_ => ?_)
          · exact absurd c68_ (by decide)
          · refine pb_ic C dX3_steps_71 ?_
            exact pb_iret C dX3_steps_72 (⟨_, rfl, rfl, ⟨hz, hO, hA1, hA2, hA3, hA4, hA5, hA6, hA7, hA8, hA9, hA10, hA11, hA12⟩, hF⟩)
        · refine pb_aload_n C dX3_steps_44 rfl (lv_at hl 0 rfl) ?_
          refine pb_iload_n C dX3_steps_45 rfl (lv_at hl 1 rfl) ?_
          refine pb_iload C dX3_steps_46 (lv_at hl 4 rfl) ?_
          refine pb_iload C dX3_steps_48 (lv_at hl 5 rfl) ?_
          refine pb_go_x (bc' := 0) (bs' := 0) (pb_runV (rest := [.ref (o)]) C hG (met_X3_has l o S ⟨hz, hO, hA1, hA2, hA3, hA4, hA5, hA6, hA7, hA8, hA9, hA10, hA11, hA12⟩ s hs hb c d (by omega) (by omega)) hO.r (ci := 2) rfl (lw_V q1875 q1877 qs35 q60 q1878) ⟨rfl, hdX3_has⟩ rfl hl.1 rfl (Nat.le_of_ble_eq_true rfl) ⟨(Nat.le_of_ble_eq_true rfl), (Nat.le_of_ble_eq_true rfl)⟩ dX3_steps_50) (by omega) (by omega) ?_
          refine pb_ifB_ne C dX3_steps_53 (tgt := 60) (by decide) (fun c53_ => ?_) (fun c53_ => ?_)
          · exact absurd ⟨c41_, c53_⟩ hh_
          · refine pb_ic C dX3_steps_56 ?_
            refine pb_goto C dX3_steps_57 (tgt := 61) (by decide) ?_
            refine pb_put C in_X3 tyX3 tyX3_ok nmX3 hO (ci := 2) rfl 0 (by decide) q1737 (fun _ h9 => h9) rfl (v := .int (iZ (3))) rfl rfl (Nat.le_of_ble_eq_true rfl) (by omega) dX3_steps_61 fun H2_ hu_ hO => ?_
            have hO : pb_O w H2_ (o) 2 [.int (iZ (3)), .int (iZ ((S.1 1))), .ref (o + 1), .ref (o + 2), .ref (o + 3), .ref (o + 4), .ref (o + 5), .ref (o + 6), .ref (o + 7), .ref (o + 8), .ref (o + 9), .ref (o + 10), .ref (o + 11), .ref (o + 12), .int (iZ ((S.1 2))), .int (iZ ((S.1 3)))] := hO
            have hG := hG.kept (hu_.z (by omega))
            have hA1 := hA1.kept (hu_.2 _ (by omega))
            have hA2 := hA2.kept (hu_.2 _ (by omega))
            have hA3 := hA3.kept (hu_.2 _ (by omega))
            have hA4 := hA4.kept (hu_.2 _ (by omega))
            have hA5 := hA5.kept (hu_.2 _ (by omega))
            have hA6 := hA6.kept (hu_.2 _ (by omega))
            have hA7 := hA7.kept (hu_.2 _ (by omega))
            have hA8 := hA8.kept (hu_.2 _ (by omega))
            have hA9 := hA9.kept (hu_.2 _ (by omega))
            have hA10 := hA10.kept (hu_.2 _ (by omega))
            have hA11 := hA11.kept (hu_.2 _ (by omega))
            have hA12 := hA12.kept (hu_.2 _ (by omega))
            have hF := hF.up hu_ (by omega)
            refine pb_aload_n C dX3_steps_64 rfl (lv_at hl 0 rfl) ?_
            refine pb_get C in_X3 hO.r (ci := 2) rfl 0 (by decide) q1737 (fun _ h9 => h9) (v := .int (iZ (3))) rfl dX3_steps_65 ?_
            refine pb_if_eq C dX3_steps_68 (x := 3) (tgt := 73) (by decide) (by omega) (fun c68_ => ?_) (fun c68_ => ?_)
            · exact absurd c68_ (by decide)
            · refine pb_ic C dX3_steps_71 ?_
              exact pb_iret C dX3_steps_72 (⟨_, rfl, rfl, ⟨hz, hO, hA1, hA2, hA3, hA4, hA5, hA6, hA7, hA8, hA9, hA10, hA11, hA12⟩, hF⟩)
      · have c27_ := of_decide_eq_false c27_
        omega
  · have c5_ := of_decide_eq_false c5_
    omega

set_option maxHeartbeats 1000000 in
theorem met_X3_stepsByRows_1 {w : pb_W} (l : Launch) {H0 : Heap} (o : Nat) (S : mS) (hM : MW w H0 o S) (s : Int) (hsr : -2147483648 ≤ s ∧ s ≤ 2147483647) (hs : ¬ (0 ≤ s ∧ s ≤ 7)) (a b c d : Int) (ha : -2147483648 ≤ a ∧ a ≤ 2147483647) (hb1 : -2147483648 ≤ b ∧ b ≤ 2147483647) (hc : -2147483648 ≤ c ∧ c ≤ 2147483647) (hd : -2147483648 ≤ d ∧ d ≤ 2147483647) : pb_M w l yX3_stepsByRows cX3_stepsByRows 6 (some .int) 7 (0) (0) [.ref (o), .int (iZ (s)), .int (iZ (a)), .int (iZ (b)), .int (iZ (c)), .int (iZ (d))] H0 (pb_qi (fun z H1 => z = 0 ∧ MW w H1 o (mI S 0 1) ∧ mF o H0 H1)) := by
  refine pb_of (by decide +kernel) (Nat.le_of_ble_eq_true rfl) ?_
  intro p_ e_ s_ m_ ar_ bl_ me_ co_ ls C hh hG hl
  have hl : lv_has ls 6 [(0, .ref (o)), (1, .int (iZ (s))), (2, .int (iZ (a))), (3, .int (iZ (b))), (4, .int (iZ (c))), (5, .int (iZ (d)))] := hl
  have hM0 := hM; obtain ⟨hz, hO, hA1, hA2, hA3, hA4, hA5, hA6, hA7, hA8, hA9, hA10, hA11, hA12⟩ := hM0
  have hF : mF o H0 H0 := mF.rf
  refine pb_aload_n C dX3_stepsByRows_0 rfl (lv_at hl 0 rfl) ?_
  refine pb_iload_n C dX3_stepsByRows_1 rfl (lv_at hl 1 rfl) ?_
  refine pb_iload_n C dX3_stepsByRows_2 rfl (lv_at hl 2 rfl) ?_
  refine pb_iload_n C dX3_stepsByRows_3 rfl (lv_at hl 3 rfl) ?_
  refine pb_iload C dX3_stepsByRows_4 (lv_at hl 4 rfl) ?_
  refine pb_iload C dX3_stepsByRows_6 (lv_at hl 5 rfl) ?_
  refine pb_go_i (bc' := 0) (bs' := 0) (pb_runV (rest := []) C hG (met_X3_steps_1 l o S hM s hsr hs a b c d ha hb1 hc hd) hO.r (ci := 2) rfl (lw_V q2046 q2039 q2040 q60 q2041) ⟨rfl, hdX3_steps⟩ rfl hl.1 rfl (Nat.le_of_ble_eq_true rfl) ⟨(Nat.le_of_ble_eq_true rfl), (Nat.le_of_ble_eq_true rfl)⟩ dX3_stepsByRows_8) (by omega) (by omega) (fun z_ H_ hp_ => ?_)
  obtain ⟨rfl, hM, hF⟩ := hp_
  exact pb_iret C dX3_stepsByRows_11 (⟨_, rfl, rfl, hM, hF⟩)

set_option maxHeartbeats 1000000 in
theorem met_X3_stepsByRows_2 {w : pb_W} (l : Launch) {H0 : Heap} (o : Nat) (S : mS) (hM : MW w H0 o S) (s : Nat) (hs : s < 8) (a b c d : Int) (ha : -2147483648 ≤ a ∧ a ≤ 2147483647) (hb1 : -2147483648 ≤ b ∧ b ≤ 2147483647) (hc : -2147483648 ≤ c ∧ c ≤ 2147483647) (hd : -2147483648 ≤ d ∧ d ≤ 2147483647) (hn : ¬ (((0 ≤ a ∧ a ≤ 23) ∧ 0 ≤ b ∧ b ≤ 23) ∧ (0 ≤ c ∧ c ≤ 23) ∧ 0 ≤ d ∧ d ≤ 23)) : pb_M w l yX3_stepsByRows cX3_stepsByRows 6 (some .int) 7 (0) (0) [.ref (o), .int (iZ (((s : Nat) : Int))), .int (iZ (a)), .int (iZ (b)), .int (iZ (c)), .int (iZ (d))] H0 (pb_qi (fun z H1 => z = 0 ∧ MW w H1 o (mI S 0 2) ∧ mF o H0 H1)) := by
  refine pb_of (by decide +kernel) (Nat.le_of_ble_eq_true rfl) ?_
  intro p_ e_ s_ m_ ar_ bl_ me_ co_ ls C hh hG hl
  have hl : lv_has ls 6 [(0, .ref (o)), (1, .int (iZ (((s : Nat) : Int)))), (2, .int (iZ (a))), (3, .int (iZ (b))), (4, .int (iZ (c))), (5, .int (iZ (d)))] := hl
  have hM0 := hM; obtain ⟨hz, hO, hA1, hA2, hA3, hA4, hA5, hA6, hA7, hA8, hA9, hA10, hA11, hA12⟩ := hM0
  have hF : mF o H0 H0 := mF.rf
  refine pb_aload_n C dX3_stepsByRows_0 rfl (lv_at hl 0 rfl) ?_
  refine pb_iload_n C dX3_stepsByRows_1 rfl (lv_at hl 1 rfl) ?_
  refine pb_iload_n C dX3_stepsByRows_2 rfl (lv_at hl 2 rfl) ?_
  refine pb_iload_n C dX3_stepsByRows_3 rfl (lv_at hl 3 rfl) ?_
  refine pb_iload C dX3_stepsByRows_4 (lv_at hl 4 rfl) ?_
  refine pb_iload C dX3_stepsByRows_6 (lv_at hl 5 rfl) ?_
  refine pb_go_i (bc' := 0) (bs' := 0) (pb_runV (rest := []) C hG (met_X3_steps_2 l o S hM s hs a b c d ha hb1 hc hd hn) hO.r (ci := 2) rfl (lw_V q2046 q2039 q2040 q60 q2041) ⟨rfl, hdX3_steps⟩ rfl hl.1 rfl (Nat.le_of_ble_eq_true rfl) ⟨(Nat.le_of_ble_eq_true rfl), (Nat.le_of_ble_eq_true rfl)⟩ dX3_stepsByRows_8) (by omega) (by omega) (fun z_ H_ hp_ => ?_)
  obtain ⟨rfl, hM, hF⟩ := hp_
  exact pb_iret C dX3_stepsByRows_11 (⟨_, rfl, rfl, hM, hF⟩)

set_option maxHeartbeats 1000000 in
theorem met_X3_stepsByRows_3 {w : pb_W} (l : Launch) {H0 : Heap} (o : Nat) (S : mS) (hM : MW w H0 o S) (s : Nat) (hs : s < 8) (hb : mok S) (a b c d : Int) (ha : -2147483648 ≤ a ∧ a ≤ 2147483647) (hb1 : -2147483648 ≤ b ∧ b ≤ 2147483647) (hc : -2147483648 ≤ c ∧ c ≤ 2147483647) (hd : -2147483648 ≤ d ∧ d ≤ 2147483647) (hn : ((0 ≤ a ∧ a ≤ 23) ∧ 0 ≤ b ∧ b ≤ 23) ∧ (0 ≤ c ∧ c ≤ 23) ∧ 0 ≤ d ∧ d ≤ 23) (hh_ : ¬ (gc (mg S s) a b = true ∧ gc (mg S s) c d = true)) : pb_M w l yX3_stepsByRows cX3_stepsByRows 6 (some .int) 7 (0) (0) [.ref (o), .int (iZ (((s : Nat) : Int))), .int (iZ (a)), .int (iZ (b)), .int (iZ (c)), .int (iZ (d))] H0 (pb_qi (fun z H1 => z = 0 ∧ MW w H1 o (mI S 0 3) ∧ mF o H0 H1)) := by
  refine pb_of (by decide +kernel) (Nat.le_of_ble_eq_true rfl) ?_
  intro p_ e_ s_ m_ ar_ bl_ me_ co_ ls C hh hG hl
  have hl : lv_has ls 6 [(0, .ref (o)), (1, .int (iZ (((s : Nat) : Int)))), (2, .int (iZ (a))), (3, .int (iZ (b))), (4, .int (iZ (c))), (5, .int (iZ (d)))] := hl
  have hM0 := hM; obtain ⟨hz, hO, hA1, hA2, hA3, hA4, hA5, hA6, hA7, hA8, hA9, hA10, hA11, hA12⟩ := hM0
  have hF : mF o H0 H0 := mF.rf
  refine pb_aload_n C dX3_stepsByRows_0 rfl (lv_at hl 0 rfl) ?_
  refine pb_iload_n C dX3_stepsByRows_1 rfl (lv_at hl 1 rfl) ?_
  refine pb_iload_n C dX3_stepsByRows_2 rfl (lv_at hl 2 rfl) ?_
  refine pb_iload_n C dX3_stepsByRows_3 rfl (lv_at hl 3 rfl) ?_
  refine pb_iload C dX3_stepsByRows_4 (lv_at hl 4 rfl) ?_
  refine pb_iload C dX3_stepsByRows_6 (lv_at hl 5 rfl) ?_
  refine pb_go_i (bc' := 0) (bs' := 0) (pb_runV (rest := []) C hG (met_X3_steps_3 l o S hM s hs hb a b c d ha hb1 hc hd hn hh_) hO.r (ci := 2) rfl (lw_V q2046 q2039 q2040 q60 q2041) ⟨rfl, hdX3_steps⟩ rfl hl.1 rfl (Nat.le_of_ble_eq_true rfl) ⟨(Nat.le_of_ble_eq_true rfl), (Nat.le_of_ble_eq_true rfl)⟩ dX3_stepsByRows_8) (by omega) (by omega) (fun z_ H_ hp_ => ?_)
  obtain ⟨rfl, hM, hF⟩ := hp_
  exact pb_iret C dX3_stepsByRows_11 (⟨_, rfl, rfl, hM, hF⟩)

