set_option maxRecDepth 100000
set_option maxHeartbeats 1000000 in
theorem met_X3_walks {w : pb_W} (l : Launch) {H0 : Heap} (o : Nat) (S : mS) (W0 : Nat → Nat) (cx0 cy0 bg ar : Nat → Int) (on cn0 : Nat) (hM : MW w H0 o (mT S W0 cx0 cy0 bg ar ((on : Nat) : Int) ((cn0 : Nat) : Int))) (s : Nat) (hs : s < 8) (hb : mok S) (j x0 y0 a0 : Nat) (hTI : TI (mg S s) j W0 cx0 cy0 bg ar on cn0) (hlj : lj j = (x0, y0, a0)) (hd : lok (mg S s) (x0, y0, a0)) (hb0 : ¬ bit W0 (x0, y0, a0) = true) : pb_M w l yX3_walks cX3_walks 11 none 5 (0) (0) [.ref (o), .int (iZ (((s : Nat) : Int))), .int (iZ (((x0 : Nat) : Int))), .int (iZ (((y0 : Nat) : Int))), .int (iZ (((a0 : Nat) : Int)))] H0 (pb_qv (fun H1 => ∃ W cx cy bg ar cn, MW w H1 o (mT S W cx cy bg ar ((on + 1 : Nat) : Int) ((cn : Nat) : Int)) ∧ TI (mg S s) (j + 1) W cx cy bg ar (on + 1) cn ∧ mF o H0 H1)) := by
  refine pb_of (by decide +kernel) (Nat.le_of_ble_eq_true rfl) ?_
  intro p_ e_ s_ m_ ar_ bl_ me_ co_ ls C hh hG hl
  have hl : lv_has ls 11 [(0, .ref (o)), (1, .int (iZ (((s : Nat) : Int)))), (2, .int (iZ (((x0 : Nat) : Int)))), (3, .int (iZ (((y0 : Nat) : Int)))), (4, .int (iZ (((a0 : Nat) : Int))))] := hl
  have hM0 := hM; obtain ⟨hz, hO, hA1, hA2, hA3, hA4, hA5, hA6, hA7, hA8, hA9, hA10, hA11, hA12⟩ := hM0
  have hO : pb_O w H0 o 2 [.int (iZ ((S.1 0))), .int (iZ ((S.1 1))), .ref (o + 1), .ref (o + 2), .ref (o + 3), .ref (o + 4), .ref (o + 5), .ref (o + 6), .ref (o + 7), .ref (o + 8), .ref (o + 9), .ref (o + 10), .ref (o + 11), .ref (o + 12), .int (iZ (((on : Nat) : Int))), .int (iZ (((cn0 : Nat) : Int)))] := hO
  have hA1 : pb_A w H0 (o + 1) 0 192 (pb_nf (S.2.1 0)) := hA1
  have hA2 : pb_A w H0 (o + 2) 0 24 (pb_nf (S.2.1 1)) := hA2
  have hA3 : pb_A w H0 (o + 3) 0 26 (pb_nf (S.2.1 2)) := hA3
  have hA4 : pb_A w H0 (o + 4) 0 26 (pb_nf (S.2.1 3)) := hA4
  have hA5 : pb_A w H0 (o + 5) 0 40 (pb_zf (S.2.2 0)) := hA5
  have hA6 : pb_A w H0 (o + 6) 0 40 (pb_zf (S.2.2 1)) := hA6
  have hA7 : pb_A w H0 (o + 7) 0 576 (pb_zf (S.2.2 2)) := hA7
  have hA8 : pb_A w H0 (o + 8) 0 1300 (pb_zf (cx0)) := hA8
  have hA9 : pb_A w H0 (o + 9) 0 1300 (pb_zf (cy0)) := hA9
  have hA10 : pb_A w H0 (o + 10) 0 400 (pb_zf (bg)) := hA10
  have hA11 : pb_A w H0 (o + 11) 0 400 (pb_zf (ar)) := hA11
  have hA12 : pb_A w H0 (o + 12) 0 625 (pb_nf (W0)) := hA12
  have hF : mF o H0 H0 := mF.rf
  have hg : gok (mg S s) := mg_ok hb hs
  have hwl : wkc W0 ≤ 1250 := wc_le (g := (mg S s)) (fun e h1 h2 => (hTI.2.1 e h1 h2).1)
  have hon := hTI.2.2.2.2.1
  have hC0 : (offs (mg S s) (outs (mg S s) j)).length ≤ wkc W0 := by rw [← hTI.2.2.2.2.2.1]; exact hTI.2.2.2.2.2.2.1
  have hcn0 := hTI.2.2.2.2.2.2.1
  obtain ⟨hx_, hy_, ha_, -⟩ := id hd
  have L29 : ∀ (n_ : Nat) (k x y a cn : Nat) (W : Nat → Nat) (cx cy : Nat → Int) (H : Heap), 2000 - k = n_ → (pb_G w s_ H) → (MW w H o (mT S W cx cy (va_up bg on ((cn0 : Nat) : Int)) ar ((on : Nat) : Int) ((cn : Nat) : Int))) → (mF o H0 H) → (k ≤ 1250) → (Dk (mg S s) (x0, y0, a0) k = (x, y, a)) → (LI (mg S s) W0 (x0, y0, a0) (offs (mg S s) (outs (mg S s) j)) k W cx cy cn) → ∀ (ls : Array Slot), lv_has ls 11 [(0, .ref (o)), (1, .int (iZ (((s : Nat) : Int)))), (5, .int (iZ (((x : Nat) : Int)))), (6, .int (iZ (((y : Nat) : Int)))), (7, .int (iZ (((a : Nat) : Int)))), (8, .int (iZ ((arK (mg S s) (x0, y0, a0) k)))), (9, .int (iZ ((lastK (mg S s) (x0, y0, a0) k))))] → pb_V w.2.2.2 p_ l e_ (pb_rm 5 (0) (0)) s_ m_ ar_ bl_ me_ co_ H (0) (0) (pb_E w bl_ ar_ s_ (0) (0) (pb_qv (fun H1 => ∃ W cx cy bg ar cn, MW w H1 o (mT S W cx cy bg ar ((on + 1 : Nat) : Int) ((cn : Nat) : Int)) ∧ TI (mg S s) (j + 1) W cx cy bg ar (on + 1) cn ∧ mF o H0 H1))) (F0 m_ 29 ls []) := by
    intro n_
    induction n_ using Nat.strongRecOn with
    | _ n_ ih29 =>
    intro k x y a cn W cx cy H hm_ hG hM hF hk hD hL ls hl
    have hM0 := hM; obtain ⟨hz, hO, hA1, hA2, hA3, hA4, hA5, hA6, hA7, hA8, hA9, hA10, hA11, hA12⟩ := hM0
    have hO : pb_O w H o 2 [.int (iZ ((S.1 0))), .int (iZ ((S.1 1))), .ref (o + 1), .ref (o + 2), .ref (o + 3), .ref (o + 4), .ref (o + 5), .ref (o + 6), .ref (o + 7), .ref (o + 8), .ref (o + 9), .ref (o + 10), .ref (o + 11), .ref (o + 12), .int (iZ (((on : Nat) : Int))), .int (iZ (((cn : Nat) : Int)))] := hO
    have hA1 : pb_A w H (o + 1) 0 192 (pb_nf (S.2.1 0)) := hA1
    have hA2 : pb_A w H (o + 2) 0 24 (pb_nf (S.2.1 1)) := hA2
    have hA3 : pb_A w H (o + 3) 0 26 (pb_nf (S.2.1 2)) := hA3
    have hA4 : pb_A w H (o + 4) 0 26 (pb_nf (S.2.1 3)) := hA4
    have hA5 : pb_A w H (o + 5) 0 40 (pb_zf (S.2.2 0)) := hA5
    have hA6 : pb_A w H (o + 6) 0 40 (pb_zf (S.2.2 1)) := hA6
    have hA7 : pb_A w H (o + 7) 0 576 (pb_zf (S.2.2 2)) := hA7
    have hA8 : pb_A w H (o + 8) 0 1300 (pb_zf (cx)) := hA8
    have hA9 : pb_A w H (o + 9) 0 1300 (pb_zf (cy)) := hA9
    have hA10 : pb_A w H (o + 10) 0 400 (pb_zf ((va_up bg on ((cn0 : Nat) : Int)))) := hA10
    have hA11 : pb_A w H (o + 11) 0 400 (pb_zf (ar)) := hA11
    have hA12 : pb_A w H (o + 12) 0 625 (pb_nf (W)) := hA12
    have hDl : lok (mg S s) (x, y, a) := hD ▸ lok_Dk hg hd k
    obtain ⟨hx_, hy_, ha_, hl_⟩ := id hDl
    have hx_ : x ≤ 24 := hx_
    have hy_ : y ≤ 24 := hy_
    have ha_ : a < 4 := ha_
    obtain ⟨hxm, hym⟩ := lok_pos hg hDl
    have har := arK_rng hg hd k
    have hlr : -1 ≤ (lastK (mg S s) (x0, y0, a0) k) ∧ (lastK (mg S s) (x0, y0, a0) k) ≤ 3 := lastK_rng hg hd k
    have L101 : ∀ (cn1 : Nat) (W1 : Nat → Nat) (cx1 cy1 : Nat → Int) (H : Heap), (pb_G w s_ H) → (MW w H o (mT S W1 cx1 cy1 (va_up bg on ((cn0 : Nat) : Int)) ar ((on : Nat) : Int) ((cn1 : Nat) : Int))) → (mF o H0 H) → (k + 1 ≤ 1250) → (LI (mg S s) W0 (x0, y0, a0) (offs (mg S s) (outs (mg S s) j)) (k + 1) W1 cx1 cy1 cn1) →  ∀ (ls : Array Slot), lv_has ls 11 [(0, .ref (o)), (1, .int (iZ (((s : Nat) : Int)))), (5, .int (iZ (((x : Nat) : Int)))), (6, .int (iZ (((y : Nat) : Int)))), (7, .int (iZ (((a : Nat) : Int)))), (8, .int (iZ ((arK (mg S s) (x0, y0, a0) k)))), (9, .int (iZ ((lastK (mg S s) (x0, y0, a0) k))))] → pb_V w.2.2.2 p_ l e_ (pb_rm 5 (0) (0)) s_ m_ ar_ bl_ me_ co_ H (0) (0) (pb_E w bl_ ar_ s_ (0) (0) (pb_qv (fun H1 => ∃ W cx cy bg ar cn, MW w H1 o (mT S W cx cy bg ar ((on + 1 : Nat) : Int) ((cn : Nat) : Int)) ∧ TI (mg S s) (j + 1) W cx cy bg ar (on + 1) cn ∧ mF o H0 H1))) (F0 m_ 101 ls []) := by
      intro cn1 W1 cx1 cy1 H hG hM hF hk9 hL1 ls hl
      have hM0 := hM; obtain ⟨hz, hO, hA1, hA2, hA3, hA4, hA5, hA6, hA7, hA8, hA9, hA10, hA11, hA12⟩ := hM0
      have hO : pb_O w H o 2 [.int (iZ ((S.1 0))), .int (iZ ((S.1 1))), .ref (o + 1), .ref (o + 2), .ref (o + 3), .ref (o + 4), .ref (o + 5), .ref (o + 6), .ref (o + 7), .ref (o + 8), .ref (o + 9), .ref (o + 10), .ref (o + 11), .ref (o + 12), .int (iZ (((on : Nat) : Int))), .int (iZ (((cn1 : Nat) : Int)))] := hO
      have hA1 : pb_A w H (o + 1) 0 192 (pb_nf (S.2.1 0)) := hA1
      have hA2 : pb_A w H (o + 2) 0 24 (pb_nf (S.2.1 1)) := hA2
      have hA3 : pb_A w H (o + 3) 0 26 (pb_nf (S.2.1 2)) := hA3
      have hA4 : pb_A w H (o + 4) 0 26 (pb_nf (S.2.1 3)) := hA4
      have hA5 : pb_A w H (o + 5) 0 40 (pb_zf (S.2.2 0)) := hA5
      have hA6 : pb_A w H (o + 6) 0 40 (pb_zf (S.2.2 1)) := hA6
      have hA7 : pb_A w H (o + 7) 0 576 (pb_zf (S.2.2 2)) := hA7
      have hA8 : pb_A w H (o + 8) 0 1300 (pb_zf (cx1)) := hA8
      have hA9 : pb_A w H (o + 9) 0 1300 (pb_zf (cy1)) := hA9
      have hA10 : pb_A w H (o + 10) 0 400 (pb_zf ((va_up bg on ((cn0 : Nat) : Int)))) := hA10
      have hA11 : pb_A w H (o + 11) 0 400 (pb_zf (ar)) := hA11
      have hA12 : pb_A w H (o + 12) 0 625 (pb_nf (W1)) := hA12
      have L185 :  ∀ (ls : Array Slot), lv_has ls 11 [(0, .ref (o)), (1, .int (iZ (((s : Nat) : Int)))), (5, .int (iZ ((((nxx x a) : Nat) : Int)))), (6, .int (iZ ((((nxy y a) : Nat) : Int)))), (7, .int (iZ (((a : Nat) : Int)))), (8, .int (iZ ((arK (mg S s) (x0, y0, a0) (k + 1))))), (9, .int (iZ (((a : Nat) : Int))))] → pb_V w.2.2.2 p_ l e_ (pb_rm 5 (0) (0)) s_ m_ ar_ bl_ me_ co_ H (0) (0) (pb_E w bl_ ar_ s_ (0) (0) (pb_qv (fun H1 => ∃ W cx cy bg ar cn, MW w H1 o (mT S W cx cy bg ar ((on + 1 : Nat) : Int) ((cn : Nat) : Int)) ∧ TI (mg S s) (j + 1) W cx cy bg ar (on + 1) cn ∧ mF o H0 H1))) (F0 m_ 185 ls []) := by
        intro   ls hl
        have hin := lok_in hg hDl
        have hn1 := hin.1
        have hn2 := hin.2.1
        refine pb_iload C dX3_walks_185 (lv_at hl 6 rfl) ?_
        refine pb_ic C dX3_walks_187 ?_
        refine pb_iadd C dX3_walks_188 ?_
        refine pb_ic C dX3_walks_189 ?_
        refine pb_irem C dX3_walks_190 (x := (((a + 1) : Nat) : Int)) (y := 4) (by omega) (by omega) (by omega) ?_
        refine pb_istore C dX3_walks_191 hl (by decide) rfl fun ls hl => ?_
        have hl : lv_has ls 11 [(10, .int (iZ (((((a + 1) % 4) : Nat) : Int)))), (0, .ref (o)), (1, .int (iZ (((s : Nat) : Int)))), (5, .int (iZ ((((nxx x a) : Nat) : Int)))), (6, .int (iZ ((((nxy y a) : Nat) : Int)))), (7, .int (iZ (((a : Nat) : Int)))), (8, .int (iZ ((arK (mg S s) (x0, y0, a0) (k + 1))))), (9, .int (iZ (((a : Nat) : Int))))] := hl
        refine pb_aload_n C dX3_walks_193 rfl (lv_at hl 1 rfl) ?_
        refine pb_iload_n C dX3_walks_194 rfl (lv_at hl 2 rfl) ?_
        refine pb_iload C dX3_walks_195 (lv_at hl 3 rfl) ?_
        refine pb_iload C dX3_walks_197 (lv_at hl 4 rfl) ?_
        refine pb_iload C dX3_walks_199 (lv_at hl 0 rfl) ?_
        refine pb_go_x (bc' := 0) (bs' := 0) (pb_runV (rest := []) C hG (met_X3_leads l o (mT S W1 cx1 cy1 (va_up bg on ((cn0 : Nat) : Int)) ar ((on : Nat) : Int) ((cn1 : Nat) : Int)) hM s hs hb (((nxx x a) : Nat) : Int) (((nxy y a) : Nat) : Int) (by omega) (by omega) ((a + 1) % 4) (by omega)) hO.r (ci := 2) rfl (lw_V q2055 q2057 qs45 q60 q2058) ⟨rfl, hdX3_leads⟩ rfl hl.1 rfl (Nat.le_of_ble_eq_true rfl) ⟨(Nat.le_of_ble_eq_true rfl), (Nat.le_of_ble_eq_true rfl)⟩ dX3_walks_201) (by omega) (by omega) ?_
        refine pb_ifB_eq C dX3_walks_204 (tgt := 212) (by decide) (fun c204_ => ?_) (fun c204_ => ?_)
        · have c204_ : ldr (mg S s) (((nxx x a) : Nat) : Int) (((nxy y a) : Nat) : Int) ((a + 1) % 4) = false := c204_
          refine pb_aload_n C dX3_walks_212 rfl (lv_at hl 1 rfl) ?_
          refine pb_iload_n C dX3_walks_213 rfl (lv_at hl 2 rfl) ?_
          refine pb_iload C dX3_walks_214 (lv_at hl 3 rfl) ?_
          refine pb_iload C dX3_walks_216 (lv_at hl 4 rfl) ?_
          refine pb_iload C dX3_walks_218 (lv_at hl 7 rfl) ?_
          refine pb_go_x (bc' := 0) (bs' := 0) (pb_runV (rest := []) C hG (met_X3_leads l o (mT S W1 cx1 cy1 (va_up bg on ((cn0 : Nat) : Int)) ar ((on : Nat) : Int) ((cn1 : Nat) : Int)) hM s hs hb (((nxx x a) : Nat) : Int) (((nxy y a) : Nat) : Int) (by omega) (by omega) a (by omega)) hO.r (ci := 2) rfl (lw_V q2055 q2057 qs45 q60 q2058) ⟨rfl, hdX3_leads⟩ rfl hl.1 rfl (Nat.le_of_ble_eq_true rfl) ⟨(Nat.le_of_ble_eq_true rfl), (Nat.le_of_ble_eq_true rfl)⟩ dX3_walks_220) (by omega) (by omega) ?_
          refine pb_ifB_eq C dX3_walks_223 (tgt := 231) (by decide) (fun c223_ => ?_) (fun c223_ => ?_)
          · have c223_ : ldr (mg S s) (((nxx x a) : Nat) : Int) (((nxy y a) : Nat) : Int) a = false := c223_
            refine pb_iload C dX3_walks_231 (lv_at hl 7 rfl) ?_
            refine pb_ic C dX3_walks_233 ?_
            refine pb_iadd C dX3_walks_234 ?_
            refine pb_ic C dX3_walks_235 ?_
            refine pb_irem C dX3_walks_236 (x := (((a + 3) : Nat) : Int)) (y := 4) (by omega) (by omega) (by omega) ?_
            refine pb_eq (g2 := F0 m_ 237 ls [.int (iZ ((((nxw (mg S s) (nxx x a) (nxy y a) a) : Nat) : Int)))]) (congrArg (fun z9 => F0 m_ 237 ls [.int (iZ z9)]) (show ((((a + 3) % 4) : Nat) : Int) = (((nxw (mg S s) (nxx x a) (nxy y a) a) : Nat) : Int) from (congrArg (fun n : Nat => (n : Int)) (show _ = (nxw (mg S s) (nxx x a) (nxy y a) a) from by unfold nxw; rw [if_neg (Bool.eq_false_iff.mp c204_), if_neg (Bool.eq_false_iff.mp c223_)])))) ?_
            refine pb_istore C dX3_walks_237 hl (by decide) rfl fun ls hl => ?_
            have hl : lv_has ls 11 [(7, .int (iZ ((((nxw (mg S s) (nxx x a) (nxy y a) a) : Nat) : Int)))), (10, .int (iZ (((((a + 1) % 4) : Nat) : Int)))), (0, .ref (o)), (1, .int (iZ (((s : Nat) : Int)))), (5, .int (iZ ((((nxx x a) : Nat) : Int)))), (6, .int (iZ ((((nxy y a) : Nat) : Int)))), (8, .int (iZ ((arK (mg S s) (x0, y0, a0) (k + 1))))), (9, .int (iZ (((a : Nat) : Int))))] := hl
            rw [show ((a : Nat) : Int) = (lastK (mg S s) (x0, y0, a0) (k + 1)) from by rw [lastK, hD]] at hl
            refine pb_goto C dX3_walks_239 (tgt := 29) (by decide) ?_
            exact pb_V.mono (by omega) (by omega) (ih29 _ (by omega) (k + 1) (nxx x a) (nxy y a) (nxw (mg S s) (nxx x a) (nxy y a) a) cn1 W1 cx1 cy1 H rfl hG hM hF (by omega) (by rw [Dk, hD]; rfl) hL1 ls (lv_sub hl [2, 3, 4, 5, 0, 6, 7] rfl))
          · have c223_ : ldr (mg S s) (((nxx x a) : Nat) : Int) (((nxy y a) : Nat) : Int) a = true := c223_
            refine pb_iload C dX3_walks_226 (lv_at hl 7 rfl) ?_
            refine pb_goto C dX3_walks_228 (tgt := 237) (by decide) ?_
            refine pb_eq (g2 := F0 m_ 237 ls [.int (iZ ((((nxw (mg S s) (nxx x a) (nxy y a) a) : Nat) : Int)))]) (congrArg (fun z9 => F0 m_ 237 ls [.int (iZ z9)]) (show ((a : Nat) : Int) = (((nxw (mg S s) (nxx x a) (nxy y a) a) : Nat) : Int) from (congrArg (fun n : Nat => (n : Int)) (show _ = (nxw (mg S s) (nxx x a) (nxy y a) a) from by unfold nxw; rw [if_neg (Bool.eq_false_iff.mp c204_), if_pos c223_])))) ?_
            refine pb_istore C dX3_walks_237 hl (by decide) rfl fun ls hl => ?_
            have hl : lv_has ls 11 [(7, .int (iZ ((((nxw (mg S s) (nxx x a) (nxy y a) a) : Nat) : Int)))), (10, .int (iZ (((((a + 1) % 4) : Nat) : Int)))), (0, .ref (o)), (1, .int (iZ (((s : Nat) : Int)))), (5, .int (iZ ((((nxx x a) : Nat) : Int)))), (6, .int (iZ ((((nxy y a) : Nat) : Int)))), (8, .int (iZ ((arK (mg S s) (x0, y0, a0) (k + 1))))), (9, .int (iZ (((a : Nat) : Int))))] := hl
            rw [show ((a : Nat) : Int) = (lastK (mg S s) (x0, y0, a0) (k + 1)) from by rw [lastK, hD]] at hl
            refine pb_goto C dX3_walks_239 (tgt := 29) (by decide) ?_
            exact pb_V.mono (by omega) (by omega) (ih29 _ (by omega) (k + 1) (nxx x a) (nxy y a) (nxw (mg S s) (nxx x a) (nxy y a) a) cn1 W1 cx1 cy1 H rfl hG hM hF (by omega) (by rw [Dk, hD]; rfl) hL1 ls (lv_sub hl [2, 3, 4, 5, 0, 6, 7] rfl))
        · have c204_ : ldr (mg S s) (((nxx x a) : Nat) : Int) (((nxy y a) : Nat) : Int) ((a + 1) % 4) = true := c204_
          refine pb_iload C dX3_walks_207 (lv_at hl 0 rfl) ?_
          refine pb_goto C dX3_walks_209 (tgt := 237) (by decide) ?_
          refine pb_eq (g2 := F0 m_ 237 ls [.int (iZ ((((nxw (mg S s) (nxx x a) (nxy y a) a) : Nat) : Int)))]) (congrArg (fun z9 => F0 m_ 237 ls [.int (iZ z9)]) (show ((((a + 1) % 4) : Nat) : Int) = (((nxw (mg S s) (nxx x a) (nxy y a) a) : Nat) : Int) from (congrArg (fun n : Nat => (n : Int)) (show _ = (nxw (mg S s) (nxx x a) (nxy y a) a) from by unfold nxw; rw [if_pos c204_])))) ?_
          refine pb_istore C dX3_walks_237 hl (by decide) rfl fun ls hl => ?_
          have hl : lv_has ls 11 [(7, .int (iZ ((((nxw (mg S s) (nxx x a) (nxy y a) a) : Nat) : Int)))), (10, .int (iZ (((((a + 1) % 4) : Nat) : Int)))), (0, .ref (o)), (1, .int (iZ (((s : Nat) : Int)))), (5, .int (iZ ((((nxx x a) : Nat) : Int)))), (6, .int (iZ ((((nxy y a) : Nat) : Int)))), (8, .int (iZ ((arK (mg S s) (x0, y0, a0) (k + 1))))), (9, .int (iZ (((a : Nat) : Int))))] := hl
          rw [show ((a : Nat) : Int) = (lastK (mg S s) (x0, y0, a0) (k + 1)) from by rw [lastK, hD]] at hl
          refine pb_goto C dX3_walks_239 (tgt := 29) (by decide) ?_
          exact pb_V.mono (by omega) (by omega) (ih29 _ (by omega) (k + 1) (nxx x a) (nxy y a) (nxw (mg S s) (nxx x a) (nxy y a) a) cn1 W1 cx1 cy1 H rfl hG hM hF (by omega) (by rw [Dk, hD]; rfl) hL1 ls (lv_sub hl [2, 3, 4, 5, 0, 6, 7] rfl))
      have L159 :  ∀ (ls : Array Slot), lv_has ls 11 [(0, .ref (o)), (1, .int (iZ (((s : Nat) : Int)))), (5, .int (iZ ((((nxx x a) : Nat) : Int)))), (6, .int (iZ (((y : Nat) : Int)))), (7, .int (iZ (((a : Nat) : Int)))), (8, .int (iZ ((arK (mg S s) (x0, y0, a0) (k + 1))))), (9, .int (iZ (((a : Nat) : Int))))] → pb_V w.2.2.2 p_ l e_ (pb_rm 5 (0) (0)) s_ m_ ar_ bl_ me_ co_ H (0) (0) (pb_E w bl_ ar_ s_ (0) (0) (pb_qv (fun H1 => ∃ W cx cy bg ar cn, MW w H1 o (mT S W cx cy bg ar ((on + 1 : Nat) : Int) ((cn : Nat) : Int)) ∧ TI (mg S s) (j + 1) W cx cy bg ar (on + 1) cn ∧ mF o H0 H1))) (F0 m_ 159 ls []) := by
        intro   ls hl
        have hin := lok_in hg hDl
        have hn1 := hin.1
        have hn2 := hin.2.1
        refine pb_iload C dX3_walks_159 (lv_at hl 3 rfl) ?_
        refine pb_iload C dX3_walks_161 (lv_at hl 4 rfl) ?_
        refine pb_ic C dX3_walks_163 ?_
        refine pb_icmp_ne C dX3_walks_164 (x := ((a : Nat) : Int)) (y := 1) (tgt := 171) (by decide) (by omega) (by omega) (fun c164_ => ?_) (fun c164_ => ?_)
        · refine pb_iload C dX3_walks_171 (lv_at hl 4 rfl) ?_
          refine pb_ic C dX3_walks_173 ?_
          refine pb_icmp_ne C dX3_walks_174 (x := ((a : Nat) : Int)) (y := 3) (tgt := 181) (by decide) (by omega) (by omega) (fun c174_ => ?_) (fun c174_ => ?_)
          · refine pb_ic C dX3_walks_181 ?_
            refine pb_iadd C dX3_walks_182 ?_
            refine pb_eq (g2 := F0 m_ 183 ls [.int (iZ ((((nxy y a) : Nat) : Int)))]) (congrArg (fun z9 => F0 m_ 183 ls [.int (iZ z9)]) (show (((y + 0) : Nat) : Int) = (((nxy y a) : Nat) : Int) from (by unfold nxy; (repeat' split) <;> omega))) ?_
            refine pb_istore C dX3_walks_183 hl (by decide) rfl fun ls hl => ?_
            have hl : lv_has ls 11 [(6, .int (iZ ((((nxy y a) : Nat) : Int)))), (0, .ref (o)), (1, .int (iZ (((s : Nat) : Int)))), (5, .int (iZ ((((nxx x a) : Nat) : Int)))), (7, .int (iZ (((a : Nat) : Int)))), (8, .int (iZ ((arK (mg S s) (x0, y0, a0) (k + 1))))), (9, .int (iZ (((a : Nat) : Int))))] := hl
            exact pb_V.mono (by omega) (by omega) (L185   ls (lv_sub hl [1, 2, 3, 0, 4, 5, 6] rfl))
          · refine pb_ic C dX3_walks_177 ?_
            refine pb_goto C dX3_walks_178 (tgt := 182) (by decide) ?_
            refine pb_iadd C dX3_walks_182 ?_
            refine pb_eq (g2 := F0 m_ 183 ls [.int (iZ ((((nxy y a) : Nat) : Int)))]) (congrArg (fun z9 => F0 m_ 183 ls [.int (iZ z9)]) (show (((y : Nat) : Int) + (-1)) = (((nxy y a) : Nat) : Int) from (by unfold nxy; (repeat' split) <;> omega))) ?_
            refine pb_istore C dX3_walks_183 hl (by decide) rfl fun ls hl => ?_
            have hl : lv_has ls 11 [(6, .int (iZ ((((nxy y a) : Nat) : Int)))), (0, .ref (o)), (1, .int (iZ (((s : Nat) : Int)))), (5, .int (iZ ((((nxx x a) : Nat) : Int)))), (7, .int (iZ (((a : Nat) : Int)))), (8, .int (iZ ((arK (mg S s) (x0, y0, a0) (k + 1))))), (9, .int (iZ (((a : Nat) : Int))))] := hl
            exact pb_V.mono (by omega) (by omega) (L185   ls (lv_sub hl [1, 2, 3, 0, 4, 5, 6] rfl))
        · refine pb_ic C dX3_walks_167 ?_
          refine pb_goto C dX3_walks_168 (tgt := 182) (by decide) ?_
          refine pb_iadd C dX3_walks_182 ?_
          refine pb_eq (g2 := F0 m_ 183 ls [.int (iZ ((((nxy y a) : Nat) : Int)))]) (congrArg (fun z9 => F0 m_ 183 ls [.int (iZ z9)]) (show (((y + 1) : Nat) : Int) = (((nxy y a) : Nat) : Int) from (by unfold nxy; (repeat' split) <;> omega))) ?_
          refine pb_istore C dX3_walks_183 hl (by decide) rfl fun ls hl => ?_
          have hl : lv_has ls 11 [(6, .int (iZ ((((nxy y a) : Nat) : Int)))), (0, .ref (o)), (1, .int (iZ (((s : Nat) : Int)))), (5, .int (iZ ((((nxx x a) : Nat) : Int)))), (7, .int (iZ (((a : Nat) : Int)))), (8, .int (iZ ((arK (mg S s) (x0, y0, a0) (k + 1))))), (9, .int (iZ (((a : Nat) : Int))))] := hl
          exact pb_V.mono (by omega) (by omega) (L185   ls (lv_sub hl [1, 2, 3, 0, 4, 5, 6] rfl))
      have L134 :  ∀ (ls : Array Slot), lv_has ls 11 [(0, .ref (o)), (1, .int (iZ (((s : Nat) : Int)))), (5, .int (iZ (((x : Nat) : Int)))), (6, .int (iZ (((y : Nat) : Int)))), (7, .int (iZ (((a : Nat) : Int)))), (8, .int (iZ ((arK (mg S s) (x0, y0, a0) (k + 1))))), (9, .int (iZ (((a : Nat) : Int))))] → pb_V w.2.2.2 p_ l e_ (pb_rm 5 (0) (0)) s_ m_ ar_ bl_ me_ co_ H (0) (0) (pb_E w bl_ ar_ s_ (0) (0) (pb_qv (fun H1 => ∃ W cx cy bg ar cn, MW w H1 o (mT S W cx cy bg ar ((on + 1 : Nat) : Int) ((cn : Nat) : Int)) ∧ TI (mg S s) (j + 1) W cx cy bg ar (on + 1) cn ∧ mF o H0 H1))) (F0 m_ 134 ls []) := by
        intro   ls hl
        refine pb_iload C dX3_walks_134 (lv_at hl 2 rfl) ?_
        refine pb_iload C dX3_walks_136 (lv_at hl 4 rfl) ?_
        refine pb_if_ne C dX3_walks_138 (x := ((a : Nat) : Int)) (tgt := 145) (by decide) (by omega) (fun c138_ => ?_) (fun c138_ => ?_)
        · refine pb_iload C dX3_walks_145 (lv_at hl 4 rfl) ?_
          refine pb_ic C dX3_walks_147 ?_
          refine pb_icmp_ne C dX3_walks_148 (x := ((a : Nat) : Int)) (y := 2) (tgt := 155) (by decide) (by omega) (by omega) (fun c148_ => ?_) (fun c148_ => ?_)
          · refine pb_ic C dX3_walks_155 ?_
            refine pb_iadd C dX3_walks_156 ?_
            refine pb_eq (g2 := F0 m_ 157 ls [.int (iZ ((((nxx x a) : Nat) : Int)))]) (congrArg (fun z9 => F0 m_ 157 ls [.int (iZ z9)]) (show (((x + 0) : Nat) : Int) = (((nxx x a) : Nat) : Int) from (by unfold nxx; (repeat' split) <;> omega))) ?_
            refine pb_istore C dX3_walks_157 hl (by decide) rfl fun ls hl => ?_
            have hl : lv_has ls 11 [(5, .int (iZ ((((nxx x a) : Nat) : Int)))), (0, .ref (o)), (1, .int (iZ (((s : Nat) : Int)))), (6, .int (iZ (((y : Nat) : Int)))), (7, .int (iZ (((a : Nat) : Int)))), (8, .int (iZ ((arK (mg S s) (x0, y0, a0) (k + 1))))), (9, .int (iZ (((a : Nat) : Int))))] := hl
            exact pb_V.mono (by omega) (by omega) (L159   ls (lv_sub hl [1, 2, 0, 3, 4, 5, 6] rfl))
          · refine pb_ic C dX3_walks_151 ?_
            refine pb_goto C dX3_walks_152 (tgt := 156) (by decide) ?_
            refine pb_iadd C dX3_walks_156 ?_
            refine pb_eq (g2 := F0 m_ 157 ls [.int (iZ ((((nxx x a) : Nat) : Int)))]) (congrArg (fun z9 => F0 m_ 157 ls [.int (iZ z9)]) (show (((x : Nat) : Int) + (-1)) = (((nxx x a) : Nat) : Int) from (by unfold nxx; (repeat' split) <;> omega))) ?_
            refine pb_istore C dX3_walks_157 hl (by decide) rfl fun ls hl => ?_
            have hl : lv_has ls 11 [(5, .int (iZ ((((nxx x a) : Nat) : Int)))), (0, .ref (o)), (1, .int (iZ (((s : Nat) : Int)))), (6, .int (iZ (((y : Nat) : Int)))), (7, .int (iZ (((a : Nat) : Int)))), (8, .int (iZ ((arK (mg S s) (x0, y0, a0) (k + 1))))), (9, .int (iZ (((a : Nat) : Int))))] := hl
            exact pb_V.mono (by omega) (by omega) (L159   ls (lv_sub hl [1, 2, 0, 3, 4, 5, 6] rfl))
        · refine pb_ic C dX3_walks_141 ?_
          refine pb_goto C dX3_walks_142 (tgt := 156) (by decide) ?_
          refine pb_iadd C dX3_walks_156 ?_
          refine pb_eq (g2 := F0 m_ 157 ls [.int (iZ ((((nxx x a) : Nat) : Int)))]) (congrArg (fun z9 => F0 m_ 157 ls [.int (iZ z9)]) (show (((x + 1) : Nat) : Int) = (((nxx x a) : Nat) : Int) from (by unfold nxx; (repeat' split) <;> omega))) ?_
          refine pb_istore C dX3_walks_157 hl (by decide) rfl fun ls hl => ?_
          have hl : lv_has ls 11 [(5, .int (iZ ((((nxx x a) : Nat) : Int)))), (0, .ref (o)), (1, .int (iZ (((s : Nat) : Int)))), (6, .int (iZ (((y : Nat) : Int)))), (7, .int (iZ (((a : Nat) : Int)))), (8, .int (iZ ((arK (mg S s) (x0, y0, a0) (k + 1))))), (9, .int (iZ (((a : Nat) : Int))))] := hl
          exact pb_V.mono (by omega) (by omega) (L159   ls (lv_sub hl [1, 2, 0, 3, 4, 5, 6] rfl))
      refine pb_iload C dX3_walks_101 (lv_at hl 4 rfl) ?_
      refine pb_istore C dX3_walks_103 hl (by decide) rfl fun ls hl => ?_
      have hl : lv_has ls 11 [(9, .int (iZ (((a : Nat) : Int)))), (0, .ref (o)), (1, .int (iZ (((s : Nat) : Int)))), (5, .int (iZ (((x : Nat) : Int)))), (6, .int (iZ (((y : Nat) : Int)))), (7, .int (iZ (((a : Nat) : Int)))), (8, .int (iZ ((arK (mg S s) (x0, y0, a0) k))))] := hl
      refine pb_iload C dX3_walks_105 (lv_at hl 6 rfl) ?_
      refine pb_iload C dX3_walks_107 (lv_at hl 5 rfl) ?_
      refine pb_ic C dX3_walks_109 ?_
      refine pb_icmp_ne C dX3_walks_110 (x := ((a : Nat) : Int)) (y := 1) (tgt := 118) (by decide) (by omega) (by omega) (fun c110_ => ?_) (fun c110_ => ?_)
      · refine pb_iload C dX3_walks_118 (lv_at hl 5 rfl) ?_
        refine pb_ic C dX3_walks_120 ?_
        refine pb_icmp_ne C dX3_walks_121 (x := ((a : Nat) : Int)) (y := 3) (tgt := 130) (by decide) (by omega) (by omega) (fun c121_ => ?_) (fun c121_ => ?_)
        · refine pb_ic C dX3_walks_130 ?_
          refine pb_iadd C dX3_walks_131 ?_
          refine pb_eq (g2 := F0 m_ 132 ls [.int (iZ ((arK (mg S s) (x0, y0, a0) (k + 1))))]) (congrArg (fun z9 => F0 m_ 132 ls [.int (iZ z9)]) (show ((arK (mg S s) (x0, y0, a0) k) + 0) = (arK (mg S s) (x0, y0, a0) (k + 1)) from (by rw [arK, hD]; simp only []; (repeat' split) <;> omega))) ?_
          refine pb_istore C dX3_walks_132 hl (by decide) rfl fun ls hl => ?_
          have hl : lv_has ls 11 [(8, .int (iZ ((arK (mg S s) (x0, y0, a0) (k + 1))))), (9, .int (iZ (((a : Nat) : Int)))), (0, .ref (o)), (1, .int (iZ (((s : Nat) : Int)))), (5, .int (iZ (((x : Nat) : Int)))), (6, .int (iZ (((y : Nat) : Int)))), (7, .int (iZ (((a : Nat) : Int))))] := hl
          exact pb_V.mono (by omega) (by omega) (L134   ls (lv_sub hl [2, 3, 4, 5, 6, 0, 1] rfl))
        · refine pb_iload C dX3_walks_124 (lv_at hl 3 rfl) ?_
          refine pb_ineg C dX3_walks_126 ?_
          refine pb_goto C dX3_walks_127 (tgt := 131) (by decide) ?_
          refine pb_iadd C dX3_walks_131 ?_
          refine pb_eq (g2 := F0 m_ 132 ls [.int (iZ ((arK (mg S s) (x0, y0, a0) (k + 1))))]) (congrArg (fun z9 => F0 m_ 132 ls [.int (iZ z9)]) (show ((arK (mg S s) (x0, y0, a0) k) + (-(((x : Nat) : Int)))) = (arK (mg S s) (x0, y0, a0) (k + 1)) from (by rw [arK, hD]; simp only []; (repeat' split) <;> omega))) ?_
          refine pb_istore C dX3_walks_132 hl (by decide) rfl fun ls hl => ?_
          have hl : lv_has ls 11 [(8, .int (iZ ((arK (mg S s) (x0, y0, a0) (k + 1))))), (9, .int (iZ (((a : Nat) : Int)))), (0, .ref (o)), (1, .int (iZ (((s : Nat) : Int)))), (5, .int (iZ (((x : Nat) : Int)))), (6, .int (iZ (((y : Nat) : Int)))), (7, .int (iZ (((a : Nat) : Int))))] := hl
          exact pb_V.mono (by omega) (by omega) (L134   ls (lv_sub hl [2, 3, 4, 5, 6, 0, 1] rfl))
      · refine pb_iload C dX3_walks_113 (lv_at hl 3 rfl) ?_
        refine pb_goto C dX3_walks_115 (tgt := 131) (by decide) ?_
        refine pb_iadd C dX3_walks_131 ?_
        refine pb_eq (g2 := F0 m_ 132 ls [.int (iZ ((arK (mg S s) (x0, y0, a0) (k + 1))))]) (congrArg (fun z9 => F0 m_ 132 ls [.int (iZ z9)]) (show ((arK (mg S s) (x0, y0, a0) k) + ((x : Nat) : Int)) = (arK (mg S s) (x0, y0, a0) (k + 1)) from (by rw [arK, hD]; simp only []; (repeat' split) <;> omega))) ?_
        refine pb_istore C dX3_walks_132 hl (by decide) rfl fun ls hl => ?_
        have hl : lv_has ls 11 [(8, .int (iZ ((arK (mg S s) (x0, y0, a0) (k + 1))))), (9, .int (iZ (((a : Nat) : Int)))), (0, .ref (o)), (1, .int (iZ (((s : Nat) : Int)))), (5, .int (iZ (((x : Nat) : Int)))), (6, .int (iZ (((y : Nat) : Int)))), (7, .int (iZ (((a : Nat) : Int))))] := hl
        exact pb_V.mono (by omega) (by omega) (L134   ls (lv_sub hl [2, 3, 4, 5, 6, 0, 1] rfl))
    refine pb_aload_n C dX3_walks_29 rfl (lv_at hl 0 rfl) ?_
    refine pb_iload C dX3_walks_30 (lv_at hl 2 rfl) ?_
    refine pb_iload C dX3_walks_32 (lv_at hl 3 rfl) ?_
    refine pb_iload C dX3_walks_34 (lv_at hl 4 rfl) ?_
    refine pb_go_x (bc' := 0) (bs' := 0) (pb_runV (rest := []) C hG (met_X3_isWalked l o (mT S W cx cy (va_up bg on ((cn0 : Nat) : Int)) ar ((on : Nat) : Int) ((cn : Nat) : Int)) hM x y a hx_ hy_ ha_ hL.1) hO.r (ci := 2) rfl (lw_V q2059 q2061 qs46 q60 q2062) ⟨rfl, hdX3_isWalked⟩ rfl hl.1 rfl (Nat.le_of_ble_eq_true rfl) ⟨(Nat.le_of_ble_eq_true rfl), (Nat.le_of_ble_eq_true rfl)⟩ dX3_walks_36) (by omega) (by omega) ?_
    refine pb_ifB_ne C dX3_walks_39 (tgt := 242) (by decide) (fun c39_ => ?_) (fun c39_ => ?_)
    · refine pb_aload_n C dX3_walks_242 rfl (lv_at hl 0 rfl) ?_
      refine pb_get C in_X3 hO.r (ci := 2) rfl 12 (by decide) q1749 (fun _ h9 => h9) (v := .ref (o + 11)) rfl dX3_walks_243 ?_
      refine pb_aload_n C dX3_walks_246 rfl (lv_at hl 0 rfl) ?_
      refine pb_get C in_X3 hO.r (ci := 2) rfl 14 (by decide) q1751 (fun _ h9 => h9) (v := .int (iZ (((on : Nat) : Int)))) rfl dX3_walks_247 ?_
      refine pb_iload C dX3_walks_250 (lv_at hl 5 rfl) ?_
      refine pb_iast C hA11 (i := ((on : Nat) : Int)) (by omega) (by omega) dX3_walks_252 fun H1_ hu_ hA11 => ?_
      rw [pb_upZ, Int.toNat_natCast] at hA11
      have hG := hG.kept (hu_.z (by omega))
      have hO := hO.kept (hu_.2 _ (by omega))
      have hA1 := hA1.kept (hu_.2 _ (by omega))
      have hA2 := hA2.kept (hu_.2 _ (by omega))
      have hA3 := hA3.kept (hu_.2 _ (by omega))
      have hA4 := hA4.kept (hu_.2 _ (by omega))
      have hA5 := hA5.kept (hu_.2 _ (by omega))
      have hA6 := hA6.kept (hu_.2 _ (by omega))
      have hA7 := hA7.kept (hu_.2 _ (by omega))
      have hA8 := hA8.kept (hu_.2 _ (by omega))
      have hA9 := hA9.kept (hu_.2 _ (by omega))
      have hA10 := hA10.kept (hu_.2 _ (by omega))
      have hA12 := hA12.kept (hu_.2 _ (by omega))
      have hF := hF.up hu_ (by omega)
      refine pb_aload_n C dX3_walks_253 rfl (lv_at hl 0 rfl) ?_
      refine pb_dup C dX3_walks_254 rfl ?_
      refine pb_get C in_X3 hO.r (ci := 2) rfl 14 (by decide) q1751 (fun _ h9 => h9) (v := .int (iZ (((on : Nat) : Int)))) rfl dX3_walks_255 ?_
      refine pb_ic C dX3_walks_258 ?_
      refine pb_iadd C dX3_walks_259 ?_
      refine pb_put C in_X3 tyX3 tyX3_ok nmX3 hO (ci := 2) rfl 14 (by decide) q1751 (fun _ h9 => h9) rfl (v := .int (iZ ((((on + 1) : Nat) : Int)))) rfl rfl (Nat.le_of_ble_eq_true rfl) (by omega) dX3_walks_260 fun H2_ hu_ hO => ?_
      have hO : pb_O w H2_ (o) 2 [.int (iZ ((S.1 0))), .int (iZ ((S.1 1))), .ref (o + 1), .ref (o + 2), .ref (o + 3), .ref (o + 4), .ref (o + 5), .ref (o + 6), .ref (o + 7), .ref (o + 8), .ref (o + 9), .ref (o + 10), .ref (o + 11), .ref (o + 12), .int (iZ ((((on + 1) : Nat) : Int))), .int (iZ (((cn : Nat) : Int)))] := hO
      have hG := hG.kept (hu_.z (by omega))
      have hA1 := hA1.kept (hu_.2 _ (by omega))
      have hA2 := hA2.kept (hu_.2 _ (by omega))
      have hA3 := hA3.kept (hu_.2 _ (by omega))
      have hA4 := hA4.kept (hu_.2 _ (by omega))
      have hA5 := hA5.kept (hu_.2 _ (by omega))
      have hA6 := hA6.kept (hu_.2 _ (by omega))
      have hA7 := hA7.kept (hu_.2 _ (by omega))
      have hA8 := hA8.kept (hu_.2 _ (by omega))
      have hA9 := hA9.kept (hu_.2 _ (by omega))
      have hA10 := hA10.kept (hu_.2 _ (by omega))
      have hA11 := hA11.kept (hu_.2 _ (by omega))
      have hA12 := hA12.kept (hu_.2 _ (by omega))
      have hF := hF.up hu_ (by omega)
      refine pb_aload_n C dX3_walks_263 rfl (lv_at hl 0 rfl) ?_
      refine pb_get C in_X3 hO.r (ci := 2) rfl 11 (by decide) q1748 (fun _ h9 => h9) (v := .ref (o + 10)) rfl dX3_walks_264 ?_
      refine pb_aload_n C dX3_walks_267 rfl (lv_at hl 0 rfl) ?_
      refine pb_get C in_X3 hO.r (ci := 2) rfl 14 (by decide) q1751 (fun _ h9 => h9) (v := .int (iZ ((((on + 1) : Nat) : Int)))) rfl dX3_walks_268 ?_
      refine pb_aload_n C dX3_walks_271 rfl (lv_at hl 0 rfl) ?_
      refine pb_get C in_X3 hO.r (ci := 2) rfl 15 (by decide) q1752 (fun _ h9 => h9) (v := .int (iZ (((cn : Nat) : Int)))) rfl dX3_walks_272 ?_
      refine pb_iast C hA10 (i := (((on + 1) : Nat) : Int)) (by omega) (by omega) dX3_walks_275 fun H3_ hu_ hA10 => ?_
      rw [pb_upZ, Int.toNat_natCast] at hA10
      have hG := hG.kept (hu_.z (by omega))
      have hO := hO.kept (hu_.2 _ (by omega))
      have hA1 := hA1.kept (hu_.2 _ (by omega))
      have hA2 := hA2.kept (hu_.2 _ (by omega))
      have hA3 := hA3.kept (hu_.2 _ (by omega))
      have hA4 := hA4.kept (hu_.2 _ (by omega))
      have hA5 := hA5.kept (hu_.2 _ (by omega))
      have hA6 := hA6.kept (hu_.2 _ (by omega))
      have hA7 := hA7.kept (hu_.2 _ (by omega))
      have hA8 := hA8.kept (hu_.2 _ (by omega))
      have hA9 := hA9.kept (hu_.2 _ (by omega))
      have hA11 := hA11.kept (hu_.2 _ (by omega))
      have hA12 := hA12.kept (hu_.2 _ (by omega))
      have hF := hF.up hu_ (by omega)
      exact pb_vret C dX3_walks_276 (⟨rfl, W, cx, cy, _, _, cn, ⟨hz, hO, hA1, hA2, hA3, hA4, hA5, hA6, hA7, hA8, hA9, hA10, hA11, hA12⟩, TI_end hg hTI hlj hd hb0 hL (by rw [hD]; exact c39_), hF⟩)
    · have hnb : ¬ bit W (x, y, a) = true := Bool.eq_false_iff.mp c39_
      have hcb := LI_b hg hd hL hTI.2.1 hC0 hD hnb
      refine pb_aload_n C dX3_walks_42 rfl (lv_at hl 0 rfl) ?_
      refine pb_get C in_X3 hO.r (ci := 2) rfl 13 (by decide) q1750 (fun _ h9 => h9) (v := .ref (o + 12)) rfl dX3_walks_43 ?_
      refine pb_bip C dX3_walks_46 (by decide) ?_
      refine pb_iload C dX3_walks_48 (lv_at hl 3 rfl) ?_
      refine pb_imul C dX3_walks_50 ?_
      refine pb_iload C dX3_walks_51 (lv_at hl 2 rfl) ?_
      refine pb_iadd C dX3_walks_53 ?_
      refine pb_dup2 C dX3_walks_54 rfl rfl ?_
      refine pb_iald C hA12.b (i := ((((25 * y) + x) : Nat) : Int)) (v := .int (iZ ((((W (((25 * y) + x))) : Nat) : Int)))) (by omega) rfl dX3_walks_55 ?_
      refine pb_ic C dX3_walks_56 ?_
      refine pb_iload C dX3_walks_57 (lv_at hl 4 rfl) ?_
      refine pb_ishl C dX3_walks_59 (x := 1) (y := a) (by omega) ?_
      refine pb_ior C dX3_walks_60 (x := (W (((25 * y) + x)))) (y := (1 <<< a)) ?_
      refine pb_iast C hA12 (i := ((((25 * y) + x) : Nat) : Int)) (by omega) (by omega) dX3_walks_61 fun H4_ hu_ hA12 => ?_
      rw [pb_upN, Int.toNat_natCast, show va_up W (25 * y + x) (W (25 * y + x) ||| 1 <<< a) = setb W (x, y, a) from rfl] at hA12
      have hG := hG.kept (hu_.z (by omega))
      have hO := hO.kept (hu_.2 _ (by omega))
      have hA1 := hA1.kept (hu_.2 _ (by omega))
      have hA2 := hA2.kept (hu_.2 _ (by omega))
      have hA3 := hA3.kept (hu_.2 _ (by omega))
      have hA4 := hA4.kept (hu_.2 _ (by omega))
      have hA5 := hA5.kept (hu_.2 _ (by omega))
      have hA6 := hA6.kept (hu_.2 _ (by omega))
      have hA7 := hA7.kept (hu_.2 _ (by omega))
      have hA8 := hA8.kept (hu_.2 _ (by omega))
      have hA9 := hA9.kept (hu_.2 _ (by omega))
      have hA10 := hA10.kept (hu_.2 _ (by omega))
      have hA11 := hA11.kept (hu_.2 _ (by omega))
      have hF := hF.up hu_ (by omega)
      refine pb_iload C dX3_walks_62 (lv_at hl 4 rfl) ?_
      refine pb_iload C dX3_walks_64 (lv_at hl 6 rfl) ?_
      refine pb_icmp_eq C dX3_walks_66 (x := ((a : Nat) : Int)) (y := (lastK (mg S s) (x0, y0, a0) k)) (tgt := 101) (by decide) (by omega) (by omega) (fun c66_ => ?_) (fun c66_ => ?_)
      · exact pb_V.mono (by omega) (by omega) (L101 cn (setb W (x, y, a)) cx cy H4_ hG ⟨hz, hO, hA1, hA2, hA3, hA4, hA5, hA6, hA7, hA8, hA9, hA10, hA11, hA12⟩ hF (by omega) (LI_n hg hd hL hD hnb c66_) ls (lv_sub hl [0, 1, 2, 3, 4, 5, 6] rfl))
      · refine pb_aload_n C dX3_walks_69 rfl (lv_at hl 0 rfl) ?_
        refine pb_get C in_X3 hO.r (ci := 2) rfl 9 (by decide) q1746 (fun _ h9 => h9) (v := .ref (o + 8)) rfl dX3_walks_70 ?_
        refine pb_aload_n C dX3_walks_73 rfl (lv_at hl 0 rfl) ?_
        refine pb_get C in_X3 hO.r (ci := 2) rfl 15 (by decide) q1752 (fun _ h9 => h9) (v := .int (iZ (((cn : Nat) : Int)))) rfl dX3_walks_74 ?_
        refine pb_iload C dX3_walks_77 (lv_at hl 2 rfl) ?_
        refine pb_iast C hA8 (i := ((cn : Nat) : Int)) (by omega) (by omega) dX3_walks_79 fun H5_ hu_ hA8 => ?_
        rw [pb_upZ, Int.toNat_natCast] at hA8
        have hG := hG.kept (hu_.z (by omega))
        have hO := hO.kept (hu_.2 _ (by omega))
        have hA1 := hA1.kept (hu_.2 _ (by omega))
        have hA2 := hA2.kept (hu_.2 _ (by omega))
        have hA3 := hA3.kept (hu_.2 _ (by omega))
        have hA4 := hA4.kept (hu_.2 _ (by omega))
        have hA5 := hA5.kept (hu_.2 _ (by omega))
        have hA6 := hA6.kept (hu_.2 _ (by omega))
        have hA7 := hA7.kept (hu_.2 _ (by omega))
        have hA9 := hA9.kept (hu_.2 _ (by omega))
        have hA10 := hA10.kept (hu_.2 _ (by omega))
        have hA11 := hA11.kept (hu_.2 _ (by omega))
        have hA12 := hA12.kept (hu_.2 _ (by omega))
        have hF := hF.up hu_ (by omega)
        refine pb_aload_n C dX3_walks_80 rfl (lv_at hl 0 rfl) ?_
        refine pb_get C in_X3 hO.r (ci := 2) rfl 10 (by decide) q1747 (fun _ h9 => h9) (v := .ref (o + 9)) rfl dX3_walks_81 ?_
        refine pb_aload_n C dX3_walks_84 rfl (lv_at hl 0 rfl) ?_
        refine pb_get C in_X3 hO.r (ci := 2) rfl 15 (by decide) q1752 (fun _ h9 => h9) (v := .int (iZ (((cn : Nat) : Int)))) rfl dX3_walks_85 ?_
        refine pb_iload C dX3_walks_88 (lv_at hl 3 rfl) ?_
        refine pb_iast C hA9 (i := ((cn : Nat) : Int)) (by omega) (by omega) dX3_walks_90 fun H6_ hu_ hA9 => ?_
        rw [pb_upZ, Int.toNat_natCast] at hA9
        have hG := hG.kept (hu_.z (by omega))
        have hO := hO.kept (hu_.2 _ (by omega))
        have hA1 := hA1.kept (hu_.2 _ (by omega))
        have hA2 := hA2.kept (hu_.2 _ (by omega))
        have hA3 := hA3.kept (hu_.2 _ (by omega))
        have hA4 := hA4.kept (hu_.2 _ (by omega))
        have hA5 := hA5.kept (hu_.2 _ (by omega))
        have hA6 := hA6.kept (hu_.2 _ (by omega))
        have hA7 := hA7.kept (hu_.2 _ (by omega))
        have hA8 := hA8.kept (hu_.2 _ (by omega))
        have hA10 := hA10.kept (hu_.2 _ (by omega))
        have hA11 := hA11.kept (hu_.2 _ (by omega))
        have hA12 := hA12.kept (hu_.2 _ (by omega))
        have hF := hF.up hu_ (by omega)
        refine pb_aload_n C dX3_walks_91 rfl (lv_at hl 0 rfl) ?_
        refine pb_dup C dX3_walks_92 rfl ?_
        refine pb_get C in_X3 hO.r (ci := 2) rfl 15 (by decide) q1752 (fun _ h9 => h9) (v := .int (iZ (((cn : Nat) : Int)))) rfl dX3_walks_93 ?_
        refine pb_ic C dX3_walks_96 ?_
        refine pb_iadd C dX3_walks_97 ?_
        refine pb_put C in_X3 tyX3 tyX3_ok nmX3 hO (ci := 2) rfl 15 (by decide) q1752 (fun _ h9 => h9) rfl (v := .int (iZ ((((cn + 1) : Nat) : Int)))) rfl rfl (Nat.le_of_ble_eq_true rfl) (by omega) dX3_walks_98 fun H7_ hu_ hO => ?_
        have hO : pb_O w H7_ (o) 2 [.int (iZ ((S.1 0))), .int (iZ ((S.1 1))), .ref (o + 1), .ref (o + 2), .ref (o + 3), .ref (o + 4), .ref (o + 5), .ref (o + 6), .ref (o + 7), .ref (o + 8), .ref (o + 9), .ref (o + 10), .ref (o + 11), .ref (o + 12), .int (iZ (((on : Nat) : Int))), .int (iZ ((((cn + 1) : Nat) : Int)))] := hO
        have hG := hG.kept (hu_.z (by omega))
        have hA1 := hA1.kept (hu_.2 _ (by omega))
        have hA2 := hA2.kept (hu_.2 _ (by omega))
        have hA3 := hA3.kept (hu_.2 _ (by omega))
        have hA4 := hA4.kept (hu_.2 _ (by omega))
        have hA5 := hA5.kept (hu_.2 _ (by omega))
        have hA6 := hA6.kept (hu_.2 _ (by omega))
        have hA7 := hA7.kept (hu_.2 _ (by omega))
        have hA8 := hA8.kept (hu_.2 _ (by omega))
        have hA9 := hA9.kept (hu_.2 _ (by omega))
        have hA10 := hA10.kept (hu_.2 _ (by omega))
        have hA11 := hA11.kept (hu_.2 _ (by omega))
        have hA12 := hA12.kept (hu_.2 _ (by omega))
        have hF := hF.up hu_ (by omega)
        exact pb_V.mono (by omega) (by omega) (L101 (cn + 1) (setb W (x, y, a)) (va_up cx cn ((x : Nat) : Int)) (va_up cy cn ((y : Nat) : Int)) H7_ hG ⟨hz, hO, hA1, hA2, hA3, hA4, hA5, hA6, hA7, hA8, hA9, hA10, hA11, hA12⟩ hF (by omega) (LI_c hg hd hL hD hnb c66_) ls (lv_sub hl [0, 1, 2, 3, 4, 5, 6] rfl))
  refine pb_iload_n C dX3_walks_0 rfl (lv_at hl 2 rfl) ?_
  refine pb_istore C dX3_walks_1 hl (by decide) rfl fun ls hl => ?_
  have hl : lv_has ls 11 [(5, .int (iZ (((x0 : Nat) : Int)))), (0, .ref (o)), (1, .int (iZ (((s : Nat) : Int)))), (2, .int (iZ (((x0 : Nat) : Int)))), (3, .int (iZ (((y0 : Nat) : Int)))), (4, .int (iZ (((a0 : Nat) : Int))))] := hl
  refine pb_iload_n C dX3_walks_3 rfl (lv_at hl 4 rfl) ?_
  refine pb_istore C dX3_walks_4 hl (by decide) rfl fun ls hl => ?_
  have hl : lv_has ls 11 [(6, .int (iZ (((y0 : Nat) : Int)))), (5, .int (iZ (((x0 : Nat) : Int)))), (0, .ref (o)), (1, .int (iZ (((s : Nat) : Int)))), (2, .int (iZ (((x0 : Nat) : Int)))), (3, .int (iZ (((y0 : Nat) : Int)))), (4, .int (iZ (((a0 : Nat) : Int))))] := hl
  refine pb_iload C dX3_walks_6 (lv_at hl 6 rfl) ?_
  refine pb_istore C dX3_walks_8 hl (by decide) rfl fun ls hl => ?_
  have hl : lv_has ls 11 [(7, .int (iZ (((a0 : Nat) : Int)))), (6, .int (iZ (((y0 : Nat) : Int)))), (5, .int (iZ (((x0 : Nat) : Int)))), (0, .ref (o)), (1, .int (iZ (((s : Nat) : Int)))), (2, .int (iZ (((x0 : Nat) : Int)))), (3, .int (iZ (((y0 : Nat) : Int)))), (4, .int (iZ (((a0 : Nat) : Int))))] := hl
  refine pb_ic C dX3_walks_10 ?_
  refine pb_istore C dX3_walks_11 hl (by decide) rfl fun ls hl => ?_
  have hl : lv_has ls 11 [(8, .int (iZ (0))), (7, .int (iZ (((a0 : Nat) : Int)))), (6, .int (iZ (((y0 : Nat) : Int)))), (5, .int (iZ (((x0 : Nat) : Int)))), (0, .ref (o)), (1, .int (iZ (((s : Nat) : Int)))), (2, .int (iZ (((x0 : Nat) : Int)))), (3, .int (iZ (((y0 : Nat) : Int)))), (4, .int (iZ (((a0 : Nat) : Int))))] := hl
  refine pb_ic C dX3_walks_13 ?_
  refine pb_istore C dX3_walks_14 hl (by decide) rfl fun ls hl => ?_
  have hl : lv_has ls 11 [(9, .int (iZ ((-1)))), (8, .int (iZ (0))), (7, .int (iZ (((a0 : Nat) : Int)))), (6, .int (iZ (((y0 : Nat) : Int)))), (5, .int (iZ (((x0 : Nat) : Int)))), (0, .ref (o)), (1, .int (iZ (((s : Nat) : Int)))), (2, .int (iZ (((x0 : Nat) : Int)))), (3, .int (iZ (((y0 : Nat) : Int)))), (4, .int (iZ (((a0 : Nat) : Int))))] := hl
  refine pb_aload_n C dX3_walks_16 rfl (lv_at hl 5 rfl) ?_
  refine pb_get C in_X3 hO.r (ci := 2) rfl 11 (by decide) q1748 (fun _ h9 => h9) (v := .ref (o + 10)) rfl dX3_walks_17 ?_
  refine pb_aload_n C dX3_walks_20 rfl (lv_at hl 5 rfl) ?_
  refine pb_get C in_X3 hO.r (ci := 2) rfl 14 (by decide) q1751 (fun _ h9 => h9) (v := .int (iZ (((on : Nat) : Int)))) rfl dX3_walks_21 ?_
  refine pb_aload_n C dX3_walks_24 rfl (lv_at hl 5 rfl) ?_
  refine pb_get C in_X3 hO.r (ci := 2) rfl 15 (by decide) q1752 (fun _ h9 => h9) (v := .int (iZ (((cn0 : Nat) : Int)))) rfl dX3_walks_25 ?_
  refine pb_iast C hA10 (i := ((on : Nat) : Int)) (by omega) (by omega) dX3_walks_28 fun H8_ hu_ hA10 => ?_
  rw [pb_upZ, Int.toNat_natCast] at hA10
  have hG := hG.kept (hu_.z (by omega))
  have hO := hO.kept (hu_.2 _ (by omega))
  have hA1 := hA1.kept (hu_.2 _ (by omega))
  have hA2 := hA2.kept (hu_.2 _ (by omega))
  have hA3 := hA3.kept (hu_.2 _ (by omega))
  have hA4 := hA4.kept (hu_.2 _ (by omega))
  have hA5 := hA5.kept (hu_.2 _ (by omega))
  have hA6 := hA6.kept (hu_.2 _ (by omega))
  have hA7 := hA7.kept (hu_.2 _ (by omega))
  have hA8 := hA8.kept (hu_.2 _ (by omega))
  have hA9 := hA9.kept (hu_.2 _ (by omega))
  have hA11 := hA11.kept (hu_.2 _ (by omega))
  have hA12 := hA12.kept (hu_.2 _ (by omega))
  have hF := hF.up hu_ (by omega)
  exact pb_V.mono (by omega) (by omega) (L29 _ 0 x0 y0 a0 cn0 W0 cx0 cy0 H8_ rfl hG ⟨hz, hO, hA1, hA2, hA3, hA4, hA5, hA6, hA7, hA8, hA9, hA10, hA11, hA12⟩ hF (by omega) rfl (LI_0 hTI _) ls (lv_sub hl [5, 6, 4, 3, 2, 1, 0] rfl))

