set_option maxRecDepth 100000
set_option maxHeartbeats 1000000 in
theorem met_X1_closePath {w : pb_W} (l : Launch) {H0 : Heap} (M0 : Nat → Prop) (b sl e c xs ys : Nat) (V : List Nat) (G : Nat → Nat → Nat) (hB : BP w H0 (fun q => q ≠ c ∧ q ≠ xs ∧ q ≠ ys ∧ M0 q) b sl e (.ref c) V G) (X Y : Nat → Int) (n : Nat) (hPo : Po w H0 c xs ys X Y n) (hzc : w.2.2.2 ≤ c ∧ w.2.2.2 ≤ xs ∧ w.2.2.2 ≤ ys) (hM : ∀ q, H0.size ≤ q → M0 q) (t : Nat) (ht : t < 8) (g : Nat → Nat) (hg9 : gok g) (odd : Bool) (hn : 1 ≤ n ∧ n ≤ 40) (hcc : ccA X Y n = true) (hst : stP X Y n) (he9 : ∀ x y, gc g x y = (decide (0 ≤ x ∧ x < 24 ∧ 0 ≤ y ∧ y < 24) && wfill X Y n odd y.toNat x.toNat)) : pb_M w l yX1_closePath cX1_closePath 4 (some .int) 9 (152) (3090) [.ref (b), .int (iZ (((t : Nat) : Int))), .int (iZ ((bI (odd))))] H0 (pb_qi (fun z H1 => z = ((cnt g : Nat) : Int) ∧ (∃ r, BP w H1 (fun q => q ≠ c ∧ q ≠ xs ∧ q ≠ ys ∧ M0 q) b sl e .null (V.set t r) (gup G t g)) ∧ pb_F (fun q => q < H0.size ∧ q ≠ b ∧ q ≠ e) H0 H1)) := by
  refine pb_of (by decide +kernel) (Nat.le_of_ble_eq_true rfl) ?_
  intro p_ e_ s_ m_ ar_ bl_ me_ co_ ls C hh hG hl
  have hl : lv_has ls 4 [(0, .ref (b)), (1, .int (iZ (((t : Nat) : Int)))), (2, .int (iZ ((bI (odd)))))] := hl
  have hzs := hG.1
  have hba := hB.a
  have hbp := hB
  obtain ⟨hO, hzb, hL, hV8, hQQ⟩ := id hbp
  have hS := hB.sq
  obtain ⟨fsl_, hLo⟩ := hL.o
  have hFF : pb_F (fun q => q < H0.size) H0 H0 := pb_F.rf
  have hbe : e ≠ b := by
    rcases hL.2.2 with h9 | h9
    · rw [h9.1] at hV8; cases hV8
    · exact Ne.symm (hO.r.ty.1.ne C.inj h9.2.2.b.ty (by decide) (by decide) (by decide))
  have hbs : sl ≠ b := Ne.symm (hO.r.ty.1.ne C.inj hL.2.1.r.ty.1 (by decide) (by decide) (by decide))
  have hPc := hPo.1
  have tc := hPo.1.r.ty.1
  have tx := hPo.2.1.b.ty
  have ty := hPo.2.2.1.b.ty
  have tb := hO.r.ty.1
  have ts := hL.2.1.r.ty.1
  have te : pb_Ty w H0 e 23 := by
    rcases hL.2.2 with h9 | h9
    · rw [h9.1] at hV8; cases hV8
    · exact h9.2.2.b.ty
  have n1 : b ≠ c := tb.ne C.inj tc (by decide) (by decide) (by decide)
  have n2 : b ≠ xs := tb.ne C.inj tx (by decide) (by decide) (by decide)
  have n3 : b ≠ ys := tb.ne C.inj ty (by decide) (by decide) (by decide)
  have n4 : sl ≠ c := ts.ne C.inj tc (by decide) (by decide) (by decide)
  have n5 : sl ≠ xs := ts.ne C.inj tx (by decide) (by decide) (by decide)
  have n6 : sl ≠ ys := ts.ne C.inj ty (by decide) (by decide) (by decide)
  have n7 : e ≠ c := te.ne C.inj tc (by decide) (by decide) (by decide)
  have n8 : e ≠ xs := te.ne C.inj tx (by decide) (by decide) (by decide)
  have n9 : e ≠ ys := te.ne C.inj ty (by decide) (by decide) (by decide)
  have hxl := hPo.2.1.lt
  have hyl := hPo.2.2.1.lt
  have hcl := hPo.1.lt
  refine pb_aload_n C dX1_closePath_0 rfl (lv_at hl 0 rfl) ?_
  refine pb_iload_n C dX1_closePath_1 rfl (lv_at hl 1 rfl) ?_
  refine pb_go_x (bc' := 152) (bs' := 3090) (pb_runV (rest := []) C hG (met_X1_region l b sl (.ref c) V _ G hS t ht) hO.r (ci := 0) rfl (lw_V q325 q327 qs4 q51 q328) ⟨rfl, hdX1_region⟩ rfl hl.1 rfl (Nat.le_of_ble_eq_true rfl) ⟨(Nat.le_of_ble_eq_true rfl), (Nat.le_of_ble_eq_true rfl)⟩ dX1_closePath_2) (by omega) (by omega) ?_
  refine pb_pop C dX1_closePath_5 rfl ?_
  refine pb_aload_n C dX1_closePath_6 rfl (lv_at hl 0 rfl) ?_
  refine pb_aload_n C dX1_closePath_7 rfl (lv_at hl 0 rfl) ?_
  refine pb_get C in_X1 hO.r (ci := 0) rfl 1 (by decide) q228 (fun _ h9 => h9) (v := .ref (c)) rfl dX1_closePath_8 ?_
  refine pb_ifnull C dX1_closePath_11 ?_
  refine pb_aload_n C dX1_closePath_14 rfl (lv_at hl 0 rfl) ?_
  refine pb_get C in_X1 hO.r (ci := 0) rfl 1 (by decide) q228 (fun _ h9 => h9) (v := .ref (c)) rfl dX1_closePath_15 ?_
  refine pb_go_x (bc' := 152) (bs' := 3090) (pb_runV (rest := [.ref (b)]) C hG (met_X11_canClose l c _ X Y n (hPo.q (by omega))) hPc.r (ci := 10) rfl (lw_V q812 q813 q814 q80 q815) ⟨rfl, hdX11_canClose⟩ rfl hl.1 rfl (Nat.le_of_ble_eq_true rfl) ⟨(Nat.le_of_ble_eq_true rfl), (Nat.le_of_ble_eq_true rfl)⟩ dX1_closePath_18) (by omega) (by omega) ?_
  refine pb_eq (g2 := F0 m_ 21 ls [.int (iZ (1)), .ref (b)]) (congrArg (fun z9 => F0 m_ 21 ls [.int (iZ z9), .ref (b)]) (show (bI ((ccA X Y n))) = 1 from (bI_t hcc))) ?_
  refine pb_if_eq C dX1_closePath_21 (x := 1) (tgt := 28) (by decide) (by omega) (fun c21_ => ?_) (fun c21_ => ?_)
  · exact absurd c21_ (by decide)
  · refine pb_ic C dX1_closePath_24 ?_
    refine pb_goto C dX1_closePath_25 (tgt := 29) (by decide) ?_
    refine pb_go_n (bc' := 152) (bs' := 3090) (pb_runV (rest := []) C hG (met_X1_checkPath l b) hO.r (ci := 0) rfl (lw_V q781 q783 qs9 q51 q784) ⟨rfl, hdX1_checkPath⟩ rfl hl.1 rfl (Nat.le_of_ble_eq_true rfl) ⟨(Nat.le_of_ble_eq_true rfl), (Nat.le_of_ble_eq_true rfl)⟩ dX1_closePath_29) (by omega) (by omega) ?_
    refine pb_aload_n C dX1_closePath_32 rfl (lv_at hl 0 rfl) ?_
    refine pb_get C in_X1 hO.r (ci := 0) rfl 1 (by decide) q228 (fun _ h9 => h9) (v := .ref (c)) rfl dX1_closePath_33 ?_
    refine pb_iload_n C dX1_closePath_36 rfl (lv_at hl 2 rfl) ?_
    refine pb_go_r (bc' := 2) (bs' := 6) (pb_runV (rest := []) C hG (met_X11_filled_g l c _ X Y n (hPo.q (by omega)) odd hst) hPc.r (ci := 10) rfl (lw_V q817 q818 q819 q80 q820) ⟨rfl, hdX11_filled⟩ rfl hl.1 rfl (Nat.le_of_ble_eq_true rfl) ⟨(Nat.le_of_ble_eq_true rfl), (Nat.le_of_ble_eq_true rfl)⟩ dX1_closePath_37) (by omega) (by omega) (fun r8 H1 hp_ => ?_)
    obtain ⟨L8, hRb, hr8, hF1⟩ := hp_
    have hs9 := hF1.1
    have hG := hG.kept (hF1.mono (fun q _ (hq : q < w.2.2.2) => show q < _ from by omega))
    have hFF := hFF.tr hF1
    have hB := hB.kept hF1
    have hO := hB.1
    have hQn := hRb.rq hr8 hg9 he9
    refine pb_astore_n C dX1_closePath_40 rfl hl (by decide) rfl fun ls hl => ?_
    have hl : lv_has ls 4 [(3, .ref (r8)), (0, .ref (b)), (1, .int (iZ (((t : Nat) : Int)))), (2, .int (iZ ((bI (odd)))))] := hl
    refine pb_aload_n C dX1_closePath_41 rfl (lv_at hl 1 rfl) ?_
    refine pb_anull C dX1_closePath_42 ?_
    refine pb_put C in_X1 tyX1 tyX1_ok nmX1 hO (ci := 0) rfl 1 (by decide) q228 (fun _ h9 => h9) rfl (v := .null) rfl rfl (Nat.le_of_ble_eq_true rfl) (by omega) dX1_closePath_43 fun H1_ hu_ hO => ?_
    have hO : pb_O w H1_ (b) 0 [.ref (sl), .null] := hO
    have hG := hG.kept (hu_.z (by omega))
    have hs_H1_ := hu_.1
    have hB := hB.upv hO hu_.f hbs hbe
    have hQn := hQn.kept (hu_.f.mono (fun q _ (hq : H0.size ≤ q ∧ q < _) => show q ≠ b from by have := hq.1; omega))
    have hs7 := hu_.1
    have hFZ : pb_F (fun q => q < H0.size ∧ q ≠ b) H0 H1_ := (hFF.mono (fun q _ hq => hq.1)).tr (hu_.f.mono (fun q _ hq => hq.2))
    refine pb_aload_n C dX1_closePath_46 rfl (lv_at hl 1 rfl) ?_
    refine pb_iload_n C dX1_closePath_47 rfl (lv_at hl 2 rfl) ?_
    refine pb_aload_n C dX1_closePath_48 rfl (lv_at hl 0 rfl) ?_
    refine pb_go_i (bc' := 0) (bs' := 0) (pb_runV (rest := []) C hG (met_X1_put l _ b sl e .null V G hB t ht r8 _ g hQn (fun q _ (hq : H0.size ≤ q ∧ q < _) => ⟨by have := hq.1; omega, by have := hq.1; omega, by have := hq.1; omega, by have := hq.1; omega, by have := hq.1; omega, by have := hq.1; omega, hM q hq.1⟩)) hO.r (ci := 0) rfl (lw_V q716 q718 qs8 q51 q719) ⟨rfl, hdX1_put⟩ rfl hl.1 rfl (Nat.le_of_ble_eq_true rfl) ⟨(Nat.le_of_ble_eq_true rfl), (Nat.le_of_ble_eq_true rfl)⟩ dX1_closePath_49) (by omega) (by omega) (fun z_ H9 hp_ => ?_)
    obtain ⟨rfl, hB, hF9⟩ := hp_
    exact pb_iret C dX1_closePath_52 (⟨_, rfl, rfl, ⟨_, hB⟩, (hFZ.mono (fun q _ hq => ⟨hq.1, hq.2.1⟩)).tr (hF9.mono (fun q _ hq => (⟨by have := hq.1; omega, hq.2.2⟩ : q < _ ∧ q ≠ e)))⟩)

set_option maxHeartbeats 1000000 in
theorem met_X1_keepPart {w : pb_W} (l : Launch) {H0 : Heap} (M : Nat → Prop) (b sl e : Nat) (pv : Value) (V : List Nat) (G : Nat → Nat → Nat) (hB : BP w H0 M b sl e pv V G) (hM : ∀ q, H0.size ≤ q → M q) (s : Nat) (hs : s < 8) (t : Nat) (ht : t < 8) (g : Nat → Nat) (hg9 : gok g) (x y : Int) (hx : 0 ≤ x ∧ x ≤ 23) (hy : 0 ≤ y ∧ y ≤ 23) (hcell : gT (G s) (x, y)) (he9 : ∀ x9 y9, gc g x9 y9 = true ↔ cn (gT (G s)) false (x, y) (x9, y9)) : pb_M w l yX1_keepPart cX1_keepPart 8 (some .int) 10 (2332) (40784) [.ref (b), .int (iZ (((s : Nat) : Int))), .int (iZ (x)), .int (iZ (y)), .int (iZ (((t : Nat) : Int)))] H0 (pb_qi (fun z H1 => z = ((cnt g : Nat) : Int) ∧ (∃ r, BP w H1 M b sl e pv (V.set t r) (gup G t g)) ∧ pb_F (fun q => q < H0.size ∧ q ≠ e) H0 H1)) := by
  refine pb_of (by decide +kernel) (Nat.le_of_ble_eq_true rfl) ?_
  intro p_ e_ s_ m_ ar_ bl_ me_ co_ ls C hh hG hl
  have hl : lv_has ls 8 [(0, .ref (b)), (1, .int (iZ (((s : Nat) : Int)))), (2, .int (iZ (x))), (3, .int (iZ (y))), (4, .int (iZ (((t : Nat) : Int))))] := hl
  have hzs := hG.1
  have hba := hB.a
  have hbp := hB
  obtain ⟨hO, hzb, hL, hV8, hQQ⟩ := id hbp
  have hS := hB.sq
  obtain ⟨fsl_, hLo⟩ := hL.o
  have hFF : pb_F (fun q => q < H0.size) H0 H0 := pb_F.rf
  obtain ⟨fsr_, hRo⟩ : ∃ fs, pb_R w H0 (nV V s) 1 fs := by
    obtain ⟨-, L9, hR9, -⟩ := hS.2 s hs
    exact hR9.o
  have hrq := rp_P288
  obtain ⟨hg, L, hR, hr⟩ := hS.2 s hs
  refine pb_aload_n C dX1_keepPart_0 rfl (lv_at hl 0 rfl) ?_
  refine pb_iload_n C dX1_keepPart_1 rfl (lv_at hl 1 rfl) ?_
  refine pb_iload C dX1_keepPart_2 (lv_at hl 4 rfl) ?_
  refine pb_go_x (bc' := 2332) (bs' := 40784) (pb_runV (rest := []) C hG (met_X1_regionFor l b sl pv V _ G hS s hs t ht) hO.r (ci := 0) rfl (lw_V q865 q867 qs12 q51 q868) ⟨rfl, hdX1_regionFor⟩ rfl hl.1 rfl (Nat.le_of_ble_eq_true rfl) ⟨(Nat.le_of_ble_eq_true rfl), (Nat.le_of_ble_eq_true rfl)⟩ dX1_keepPart_4) (by omega) (by omega) ?_
  refine pb_astore C dX1_keepPart_7 hl (by decide) rfl fun ls hl => ?_
  have hl : lv_has ls 8 [(5, .ref ((nV V s))), (0, .ref (b)), (1, .int (iZ (((s : Nat) : Int)))), (2, .int (iZ (x))), (3, .int (iZ (y))), (4, .int (iZ (((t : Nat) : Int))))] := hl
  refine pb_iload_n C dX1_keepPart_9 rfl (lv_at hl 3 rfl) ?_
  refine pb_iload_n C dX1_keepPart_10 rfl (lv_at hl 4 rfl) ?_
  refine pb_go_x (bc' := 2332) (bs' := 40784) (pb_runS (rest := []) C hG (met_X1_isCell l x y (by omega) (by omega)) (lw_S q1050 q1038 q51 q1039) hdX1_isCell rfl hl.1 rfl (Nat.le_of_ble_eq_true rfl) ⟨(Nat.le_of_ble_eq_true rfl), (Nat.le_of_ble_eq_true rfl)⟩ dX1_keepPart_11) (by omega) (by omega) ?_
  refine pb_eq (g2 := F0 m_ 14 ls [.int (iZ (1))]) (congrArg (fun z9 => F0 m_ 14 ls [.int (iZ z9)]) (show (bI ((decide (0 ≤ x ∧ x ≤ 23) && decide (0 ≤ y ∧ y ≤ 23)))) = 1 from (bI_t (by rw [decide_eq_true hx, decide_eq_true hy]; rfl)))) ?_
  refine pb_go_n (bc' := 2332) (bs' := 40784) (pb_runS (rest := []) C hG (met_X1_checkArgument l) (lw_S q381 q382 q51 q383) hdX1_checkArgument rfl hl.1 rfl (Nat.le_of_ble_eq_true rfl) ⟨(Nat.le_of_ble_eq_true rfl), (Nat.le_of_ble_eq_true rfl)⟩ dX1_keepPart_14) (by omega) (by omega) ?_
  refine pb_aload C dX1_keepPart_17 (lv_at hl 0 rfl) ?_
  refine pb_go_r (bc' := 2332 - (3 + rpP 288 0)) (bs' := 40784 - (10 + rpQ 288 0)) (pb_runS (rest := []) C hG (met_X1_partsOf l (nV V s) _ L hR _ hg hr) (lw_S q1051 q1052 q51 q1053) hdX1_partsOf rfl hl.1 rfl (Nat.le_of_ble_eq_true rfl) ⟨(Nat.le_of_ble_eq_true rfl), (Nat.le_of_ble_eq_true rfl)⟩ dX1_keepPart_19) (by omega) (by omega) (fun c8 H1 hp_ => ?_)
  obtain ⟨hc8, hPw, hF1⟩ := hp_
  obtain ⟨⟨RR, ro, p⟩, hsc⟩ : ∃ z, z = scL paS L ([], fun _ => 0, 0) L.length := ⟨_, rfl⟩
  rw [← hsc] at hPw
  obtain ⟨t9, e9, V9, P9, hzc, hO9, hLb9, hVn, hRO, hds, hFO, hz9⟩ := id hPw
  have hs1 := hF1.1
  have hG := hG.kept (hF1.mono (fun q _ (hq : q < w.2.2.2) => show q < _ from by omega))
  have hFF := hFF.tr hF1
  have hlen : RR.length ≤ 288 := by
    have h7 := scL_len L ([], fun _ => 0, 0) L.length
    rw [← hsc] at h7
    have h6 := cntR_12 hg hr
    have h5 : RR.length = 0 + cntR L L.length := h7
    omega
  have hLr9 := (hLb9.r (by rw [hVn]; exact Nat.le_trans hlen (by decide))).mono (P' := fun _ => True) (fun _ _ _ => trivial)
  obtain ⟨b0, hb0, hin⟩ := pt_ex hr hsc.symm hcell
  have hk0 := paK_law hr hsc.symm hb0 hin
  have hrob : ro b0 < RR.length := (hFO.2 b0 hb0).2.2.2.1
  have hPo9 := hO9.r
  refine pb_astore C dX1_keepPart_22 hl (by decide) rfl fun ls hl => ?_
  have hl : lv_has ls 8 [(6, .ref (c8)), (5, .ref ((nV V s))), (0, .ref (b)), (1, .int (iZ (((s : Nat) : Int)))), (2, .int (iZ (x))), (3, .int (iZ (y))), (4, .int (iZ (((t : Nat) : Int))))] := hl
  refine pb_aload C dX1_keepPart_24 (lv_at hl 0 rfl) ?_
  refine pb_iload_n C dX1_keepPart_26 rfl (lv_at hl 4 rfl) ?_
  refine pb_iload_n C dX1_keepPart_27 rfl (lv_at hl 5 rfl) ?_
  refine pb_go_r (bc' := 2332 - (3 + rpP 288 0) - 1) (bs' := 40784 - (10 + rpQ 288 0) - 4) (pb_runV (rest := []) C hG (met_X13_partAt_s l c8 t9 _ _ V9 RR P9 ro _ hPo9 hLr9 hVn hRO hds hFO x y (by omega) (by omega) (ro b0) hk0) hPo9 (ci := 8) rfl (lw_V q1073 q1074 q1075 q85 q1076) ⟨rfl, hdX13_partAt⟩ rfl hl.1 rfl (Nat.le_of_ble_eq_true rfl) ⟨(Nat.le_of_ble_eq_true rfl), (Nat.le_of_ble_eq_true rfl)⟩ dX1_keepPart_28) (by omega) (by omega) (fun p8 H2 hp_ => ?_)
  obtain ⟨rfl, hF2⟩ := hp_
  have hs2 := hF2.1
  have hG := hG.kept (hF2.mono (fun q _ (hq : q < w.2.2.2) => show q < _ from by omega))
  have hFT : pb_F (fun _ => True) H1 H2 := ⟨hF2.1, fun q hq _ => hF2.2 q hq hq⟩
  have hFF := hFF.tr (hFT.mono (fun _ _ _ => trivial))
  have hPo9 := hPo9.kept (hFT.2 _ hPo9.lt trivial)
  have hLr9 := hLr9.kept hFT
  have hRO := hRO.kept hFT (fun _ _ => trivial)
  refine pb_astore C dX1_keepPart_31 hl (by decide) rfl fun ls hl => ?_
  have hl : lv_has ls 8 [(7, .ref ((nV V9 (ro b0)))), (6, .ref (c8)), (5, .ref ((nV V s))), (0, .ref (b)), (1, .int (iZ (((s : Nat) : Int)))), (2, .int (iZ (x))), (3, .int (iZ (y))), (4, .int (iZ (((t : Nat) : Int))))] := hl
  refine pb_aload C dX1_keepPart_33 (lv_at hl 0 rfl) ?_
  refine pb_ifnull C dX1_keepPart_35 ?_
  refine pb_ic C dX1_keepPart_38 ?_
  refine pb_goto C dX1_keepPart_39 (tgt := 43) (by decide) ?_
  refine pb_go_n (bc' := 2332 - (3 + rpP 288 0) - 1) (bs' := 40784 - (10 + rpQ 288 0) - 4) (pb_runS (rest := []) C hG (met_X1_checkElement l) (lw_S q1082 q1083 q51 q1084) hdX1_checkElement rfl hl.1 rfl (Nat.le_of_ble_eq_true rfl) ⟨(Nat.le_of_ble_eq_true rfl), (Nat.le_of_ble_eq_true rfl)⟩ dX1_keepPart_43) (by omega) (by omega) ?_
  refine pb_aload_n C dX1_keepPart_46 rfl (lv_at hl 3 rfl) ?_
  refine pb_iload C dX1_keepPart_47 (lv_at hl 7 rfl) ?_
  refine pb_aload C dX1_keepPart_49 (lv_at hl 1 rfl) ?_
  refine pb_aload C dX1_keepPart_51 (lv_at hl 0 rfl) ?_
  have hrp := rp_288 hlen
  have hrq := rp_P288
  refine pb_go_r (bc' := 2332 - (3 + rpP 288 0) - 1 - (2 + 5 * RR.length + rpC RR.length 0)) (bs' := 40784 - (10 + rpQ 288 0) - 4 - (4 + 122 * RR.length + rpS RR.length 0)) (pb_runV (rest := [.int (iZ (((t : Nat) : Int))), .ref (b)]) C hG (met_X13_regionOf l c8 t9 _ _ V9 RR P9 ro _ hPo9 hLr9 hVn hRO hds hFO (ro b0) hrob (same_len hg hr hsc.symm)) hPo9 (ci := 8) rfl (lw_V q1087 q1088 q1089 q85 q1090) ⟨rfl, hdX13_regionOf⟩ rfl hl.1 rfl (Nat.le_of_ble_eq_true rfl) ⟨(Nat.le_of_ble_eq_true rfl), (Nat.le_of_ble_eq_true rfl)⟩ dX1_keepPart_53) (by omega) (by omega) (fun r8 H3 hp_ => ?_)
  obtain ⟨m8, Y8, hrg8, hRb, hF3⟩ := hp_
  have hs3 := hF3.1
  have hG := hG.kept (hF3.mono (fun q _ (hq : q < w.2.2.2) => show q < _ from by omega))
  have hFF := hFF.tr (hF3.mono (fun q _ (hq : q < H0.size) => show q < _ from by omega))
  have hB := hB.kept hFF
  have hO := hB.1
  obtain ⟨kb, ke⟩ := keep_law hg hr hsc.symm hb0 hin hrg8
  have hrk := cn_S kb ke he9
  have hQn := hRb.rq hrk hg9 (fun _ _ => rfl)
  refine pb_go_i (bc' := 2332 - (3 + rpP 288 0) - 1 - (2 + 5 * RR.length + rpC RR.length 0) - 2) (bs' := 40784 - (10 + rpQ 288 0) - 4 - (4 + 122 * RR.length + rpS RR.length 0) - 6) (pb_runV (rest := []) C hG (met_X1_put l M b sl e pv V G hB t ht r8 _ g hQn (fun q _ hq => ⟨by have := hq.1; omega, by have := hq.1; omega, by have := hq.1; omega, hM q (by have := hq.1; omega)⟩)) hO.r (ci := 0) rfl (lw_V q716 q718 qs8 q51 q719) ⟨rfl, hdX1_put⟩ rfl hl.1 rfl (Nat.le_of_ble_eq_true rfl) ⟨(Nat.le_of_ble_eq_true rfl), (Nat.le_of_ble_eq_true rfl)⟩ dX1_keepPart_56) (by omega) (by omega) (fun z_ H9 hp_ => ?_)
  obtain ⟨rfl, hB, hF9⟩ := hp_
  have hFE : pb_F (fun q => q < H0.size ∧ q ≠ e) H0 H9 := (hFF.mono (fun q _ hq => hq.1)).tr (hF9.mono (fun q _ hq => (⟨by have := hFF.1; have := hq.1; omega, hq.2⟩ : q < _ ∧ q ≠ e)))
  exact pb_iret C dX1_keepPart_59 (⟨_, rfl, rfl, ⟨_, hB⟩, hFE⟩)

