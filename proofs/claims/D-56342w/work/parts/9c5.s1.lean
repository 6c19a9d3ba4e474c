set_option maxRecDepth 100000
set_option maxHeartbeats 1000000 in
theorem stp_area {w : pb_W} (l : Launch) (hlx : l.stackTraces = false) {H : Heap} {b sl o oL oD : Nat} {S : mS} (hI : LWI w H b sl o oL oD S) (a1 : Int) (ra1 : -2147483648 ≤ a1 ∧ a1 ≤ 2147483647) : StepI w l yX0_area cX0_area 4 [(0, 9, 12, 13)] yX3_area cX3_area 2 .int  [.ref b, .int (iZ (a1)), .ref oL] [.ref o, .int (iZ (a1))] H b sl o oL oD := by
  obtain ⟨M, e, V, G, pv, hP⟩ := id hI
  have hP := hP.g
  obtain ⟨h1, h2, h3, h4, h5, ⟨g6, h6⟩, ⟨g7, h7⟩, h8, h9, -⟩ := id hP
  have hS := h3.sq
  have hBo := h3.1.r
  by_cases c1 : 0 ≤ a1 ∧ a1 ≤ 7
  · obtain ⟨s, rfl, hs⟩ := sh_nat c1
    have hgs : gok (mg S s) := mg_ok h2 hs
    exact StepI_r hP (P1 := fun z => z = ((cnt (mg S s) : Nat) : Int)) (P3 := fun z => z = ((cnt (mg S s) : Nat) : Int)) (by decide +kernel) (by decide +kernel) (by decide) (fun z z' e1 e3 => ⟨e1.trans e3.symm, (by have h9 := e1; have hb9 := cnt_le (mg S s); omega), fun h => by cases h⟩) (met_X0_area l b oL _ hBo _ _ _ _ (fun z H1 => z = ((cnt (mg S s) : Nat) : Int) ∧ pb_F (fun q => q < H.size) H H1) g6 (by decide) (met_X1_area l b sl pv V _ (mg S) hS s hs) (fun z H1 hz => ⟨(hP.k1 hz.2).1, (hP.k1 hz.2).2, by have h9 := hz.1; have hb9 := cnt_le (mg S s); omega⟩) h6 h8) (fun H2 hM => rd_ok (met_X3_area l o S hM s hs h2))
  · exact StepI_x hI (by decide +kernel) (by decide +kernel) (by decide) (by decide) (mex_X0_area_1 l b oL _ hBo _ _ _ _ (by decide) (mex_X1_area_1 l hlx b _ hBo a1 ra1 c1)) (fun H2 hM => fx_ok (met_X3_area_1 l o S hM a1 ra1 c1))
set_option maxHeartbeats 1000000 in
theorem stp_areaByCells {w : pb_W} (l : Launch) (hlx : l.stackTraces = false) {H : Heap} {b sl o oL oD : Nat} {S : mS} (hI : LWI w H b sl o oL oD S) (a1 : Int) (ra1 : -2147483648 ≤ a1 ∧ a1 ≤ 2147483647) : StepI w l yX0_areaByCells cX0_areaByCells 4 [(0, 9, 12, 13)] yX3_areaByCells cX3_areaByCells 2 .int  [.ref b, .int (iZ (a1)), .ref oL] [.ref o, .int (iZ (a1))] H b sl o oL oD := by
  obtain ⟨M, e, V, G, pv, hP⟩ := id hI
  have hP := hP.g
  obtain ⟨h1, h2, h3, h4, h5, ⟨g6, h6⟩, ⟨g7, h7⟩, h8, h9, -⟩ := id hP
  have hS := h3.sq
  have hBo := h3.1.r
  by_cases c1 : 0 ≤ a1 ∧ a1 ≤ 7
  · obtain ⟨s, rfl, hs⟩ := sh_nat c1
    have hgs : gok (mg S s) := mg_ok h2 hs
    exact StepI_r hP (P1 := fun z => z = ((cnt (mg S s) : Nat) : Int)) (P3 := fun z => z = ((cnt (mg S s) : Nat) : Int)) (by decide +kernel) (by decide +kernel) (by decide) (fun z z' e1 e3 => ⟨e1.trans e3.symm, (by have h9 := e1; have hb9 := cnt_le (mg S s); omega), fun h => by cases h⟩) (met_X0_areaByCells l b oL _ hBo _ _ _ _ (fun z H1 => z = ((cnt (mg S s) : Nat) : Int) ∧ pb_F (fun q => q < H.size) H H1) g6 (by decide) (met_X1_areaByCells l b sl pv V _ (mg S) hS s hs) (fun z H1 hz => ⟨(hP.k1 hz.2).1, (hP.k1 hz.2).2, by have h9 := hz.1; have hb9 := cnt_le (mg S s); omega⟩) h6 h8) (fun H2 hM => rd_ok (met_X3_areaByCells l o S hM s hs h2))
  · exact StepI_x hI (by decide +kernel) (by decide +kernel) (by decide) (by decide) (mex_X0_areaByCells_1 l b oL _ hBo _ _ _ _ (by decide) (mex_X1_areaByCells_1 l hlx b _ hBo a1 ra1 c1)) (fun H2 hM => fx_ok (met_X3_areaByCells_1 l o S hM a1 ra1 c1))
set_option maxHeartbeats 1000000 in
theorem stp_perimeter {w : pb_W} (l : Launch) (hlx : l.stackTraces = false) {H : Heap} {b sl o oL oD : Nat} {S : mS} (hI : LWI w H b sl o oL oD S) (a1 : Int) (ra1 : -2147483648 ≤ a1 ∧ a1 ≤ 2147483647) : StepI w l yX0_perimeter cX0_perimeter 4 [(0, 9, 12, 13)] yX3_perimeter cX3_perimeter 5 .int  [.ref b, .int (iZ (a1)), .ref oL] [.ref o, .int (iZ (a1))] H b sl o oL oD := by
  obtain ⟨M, e, V, G, pv, hP⟩ := id hI
  have hP := hP.g
  obtain ⟨h1, h2, h3, h4, h5, ⟨g6, h6⟩, ⟨g7, h7⟩, h8, h9, -⟩ := id hP
  have hS := h3.sq
  have hBo := h3.1.r
  by_cases c1 : 0 ≤ a1 ∧ a1 ≤ 7
  · obtain ⟨s, rfl, hs⟩ := sh_nat c1
    have hgs : gok (mg S s) := mg_ok h2 hs
    exact StepI_r hP (P1 := fun z => z = ((permV (mg S s) : Nat) : Int)) (P3 := fun z => z = ((permV (mg S s) : Nat) : Int)) (by decide +kernel) (by decide +kernel) (by decide) (fun z z' e1 e3 => ⟨e1.trans e3.symm, (by have h9 := e1; have hb9 := permV_le (mg S s); omega), fun h => by cases h⟩) (met_X0_perimeter l b oL _ hBo _ _ _ _ (fun z H1 => z = ((permV (mg S s) : Nat) : Int) ∧ pb_F (fun q => q < H.size) H H1) g6 (by decide) (met_X1_perimeter l b sl pv V _ (mg S) hS s hs) (fun z H1 hz => ⟨(hP.k1 hz.2).1, (hP.k1 hz.2).2, by have h9 := hz.1; have hb9 := permV_le (mg S s); omega⟩) h6 h8) (fun H2 hM => rd_ok (met_X3_perimeter l o S hM s hs h2))
  · exact StepI_x hI (by decide +kernel) (by decide +kernel) (by decide) (by decide) (mex_X0_perimeter_1 l b oL _ hBo _ _ _ _ (by decide) (mex_X1_perimeter_1 l hlx b _ hBo a1 ra1 c1)) (fun H2 hM => fx_ok (met_X3_perimeter_1 l o S hM a1 ra1 c1))
set_option maxHeartbeats 1000000 in
theorem stp_perimeterByCells {w : pb_W} (l : Launch) (hlx : l.stackTraces = false) {H : Heap} {b sl o oL oD : Nat} {S : mS} (hI : LWI w H b sl o oL oD S) (a1 : Int) (ra1 : -2147483648 ≤ a1 ∧ a1 ≤ 2147483647) : StepI w l yX0_perimeterByCells cX0_perimeterByCells 4 [(0, 9, 12, 13)] yX3_perimeterByCells cX3_perimeterByCells 2 .int  [.ref b, .int (iZ (a1)), .ref oL] [.ref o, .int (iZ (a1))] H b sl o oL oD := by
  obtain ⟨M, e, V, G, pv, hP⟩ := id hI
  have hP := hP.g
  obtain ⟨h1, h2, h3, h4, h5, ⟨g6, h6⟩, ⟨g7, h7⟩, h8, h9, -⟩ := id hP
  have hS := h3.sq
  have hBo := h3.1.r
  by_cases c1 : 0 ≤ a1 ∧ a1 ≤ 7
  · obtain ⟨s, rfl, hs⟩ := sh_nat c1
    have hgs : gok (mg S s) := mg_ok h2 hs
    exact StepI_r hP (P1 := fun z => z = ((permV (mg S s) : Nat) : Int)) (P3 := fun z => z = ((permV (mg S s) : Nat) : Int)) (by decide +kernel) (by decide +kernel) (by decide) (fun z z' e1 e3 => ⟨e1.trans e3.symm, (by have h9 := e1; have hb9 := permV_le (mg S s); omega), fun h => by cases h⟩) (met_X0_perimeterByCells l b oL _ hBo _ _ _ _ (fun z H1 => z = ((permV (mg S s) : Nat) : Int) ∧ pb_F (fun q => q < H.size) H H1) g6 (by decide) (met_X1_perimeterByCells l b sl pv V _ (mg S) hS s hs) (fun z H1 hz => ⟨(hP.k1 hz.2).1, (hP.k1 hz.2).2, by have h9 := hz.1; have hb9 := permV_le (mg S s); omega⟩) h6 h8) (fun H2 hM => rd_ok (met_X3_perimeterByCells l o S hM s hs h2))
  · exact StepI_x hI (by decide +kernel) (by decide +kernel) (by decide) (by decide) (mex_X0_perimeterByCells_1 l b oL _ hBo _ _ _ _ (by decide) (mex_X1_perimeterByCells_1 l hlx b _ hBo a1 ra1 c1)) (fun H2 hM => fx_ok (met_X3_perimeterByCells_1 l o S hM a1 ra1 c1))
set_option maxHeartbeats 1000000 in
theorem stp_bandCount {w : pb_W} (l : Launch) (hlx : l.stackTraces = false) {H : Heap} {b sl o oL oD : Nat} {S : mS} (hI : LWI w H b sl o oL oD S) (a1 : Int) (ra1 : -2147483648 ≤ a1 ∧ a1 ≤ 2147483647) : StepI w l yX0_bandCount cX0_bandCount 4 [(0, 9, 12, 13)] yX3_bandCount cX3_bandCount 4 .int  [.ref b, .int (iZ (a1)), .ref oL] [.ref o, .int (iZ (a1))] H b sl o oL oD := by
  obtain ⟨M, e, V, G, pv, hP⟩ := id hI
  have hP := hP.g
  obtain ⟨h1, h2, h3, h4, h5, ⟨g6, h6⟩, ⟨g7, h7⟩, h8, h9, -⟩ := id hP
  have hS := h3.sq
  have hBo := h3.1.r
  by_cases c1 : 0 ≤ a1 ∧ a1 ≤ 7
  · obtain ⟨s, rfl, hs⟩ := sh_nat c1
    have hgs : gok (mg S s) := mg_ok h2 hs
    exact StepI_r hP (P1 := fun z => z = ((bandV (mg S s) : Nat) : Int)) (P3 := fun z => z = ((bandV (mg S s) : Nat) : Int)) (by decide +kernel) (by decide +kernel) (by decide) (fun z z' e1 e3 => ⟨e1.trans e3.symm, (by have h9 := e1; have hb9 := bandV_le (mg S s); omega), fun h => by cases h⟩) (met_X0_bandCount l b oL _ hBo _ _ _ _ (fun z H1 => z = ((bandV (mg S s) : Nat) : Int) ∧ pb_F (fun q => q < H.size) H H1) g6 (by decide) (met_X1_bandCount l b sl pv V _ (mg S) hS s hs) (fun z H1 hz => ⟨(hP.k1 hz.2).1, (hP.k1 hz.2).2, by have h9 := hz.1; have hb9 := bandV_le (mg S s); omega⟩) h6 h8) (fun H2 hM => rd_ok (met_X3_bandCount l o S hM s hs h2))
  · exact StepI_x hI (by decide +kernel) (by decide +kernel) (by decide) (by decide) (mex_X0_bandCount_1 l b oL _ hBo _ _ _ _ (by decide) (mex_X1_bandCount_1 l hlx b _ hBo a1 ra1 c1)) (fun H2 hM => fx_ok (met_X3_bandCount_1 l o S hM a1 ra1 c1))
set_option maxHeartbeats 1000000 in
theorem stp_rectangleCount {w : pb_W} (l : Launch) (hlx : l.stackTraces = false) {H : Heap} {b sl o oL oD : Nat} {S : mS} (hI : LWI w H b sl o oL oD S) (a1 : Int) (ra1 : -2147483648 ≤ a1 ∧ a1 ≤ 2147483647) : StepI w l yX0_rectangleCount cX0_rectangleCount 4 [(0, 9, 12, 13)] yX3_rectangleCount cX3_rectangleCount 5 .int  [.ref b, .int (iZ (a1)), .ref oL] [.ref o, .int (iZ (a1))] H b sl o oL oD := by
  obtain ⟨M, e, V, G, pv, hP⟩ := id hI
  have hP := hP.g
  obtain ⟨h1, h2, h3, h4, h5, ⟨g6, h6⟩, ⟨g7, h7⟩, h8, h9, -⟩ := id hP
  have hS := h3.sq
  have hBo := h3.1.r
  by_cases c1 : 0 ≤ a1 ∧ a1 ≤ 7
  · obtain ⟨s, rfl, hs⟩ := sh_nat c1
    have hgs : gok (mg S s) := mg_ok h2 hs
    exact StepI_r hP (P1 := fun z => z = ((rectV (mg S s) : Nat) : Int)) (P3 := fun z => z = ((rectV (mg S s) : Nat) : Int)) (by decide +kernel) (by decide +kernel) (by decide) (fun z z' e1 e3 => ⟨e1.trans e3.symm, (by have h9 := e1; have hb9 := rectV_le (mg S s); omega), fun h => by cases h⟩) (met_X0_rectangleCount l b oL _ hBo _ _ _ _ (fun z H1 => z = ((rectV (mg S s) : Nat) : Int) ∧ pb_F (fun q => q < H.size) H H1) g6 (by decide) (met_X1_rectangleCount l b sl pv V _ (mg S) hS s hs) (fun z H1 hz => ⟨(hP.k1 hz.2).1, (hP.k1 hz.2).2, by have h9 := hz.1; have hb9 := rectV_le (mg S s); omega⟩) h6 h8) (fun H2 hM => rd_ok (met_X3_rectangleCount l o S hM s hs h2))
  · exact StepI_x hI (by decide +kernel) (by decide +kernel) (by decide) (by decide) (mex_X0_rectangleCount_1 l b oL _ hBo _ _ _ _ (by decide) (mex_X1_rectangleCount_1 l hlx b _ hBo a1 ra1 c1)) (fun H2 hM => fx_ok (met_X3_rectangleCount_1 l o S hM a1 ra1 c1))
set_option maxHeartbeats 1000000 in
theorem stp_largestRectangle {w : pb_W} (l : Launch) (hlx : l.stackTraces = false) {H : Heap} {b sl o oL oD : Nat} {S : mS} (hI : LWI w H b sl o oL oD S) (a1 : Int) (ra1 : -2147483648 ≤ a1 ∧ a1 ≤ 2147483647) : StepI w l yX0_largestRectangle cX0_largestRectangle 4 [(0, 9, 12, 13)] yX3_largestRectangle cX3_largestRectangle 7 .int  [.ref b, .int (iZ (a1)), .ref oL] [.ref o, .int (iZ (a1))] H b sl o oL oD := by
  obtain ⟨M, e, V, G, pv, hP⟩ := id hI
  have hP := hP.g
  obtain ⟨h1, h2, h3, h4, h5, ⟨g6, h6⟩, ⟨g7, h7⟩, h8, h9, -⟩ := id hP
  have hS := h3.sq
  have hBo := h3.1.r
  by_cases c1 : 0 ≤ a1 ∧ a1 ≤ 7
  · obtain ⟨s, rfl, hs⟩ := sh_nat c1
    have hgs : gok (mg S s) := mg_ok h2 hs
    exact StepI_r hP (P1 := fun z => z = ((larR (mg S s) : Nat) : Int)) (P3 := fun z => z = ((larR (mg S s) : Nat) : Int)) (by decide +kernel) (by decide +kernel) (by decide) (fun z z' e1 e3 => ⟨e1.trans e3.symm, (by have h9 := e1; have hb9 := (lar_le hgs).1; omega), fun h => by cases h⟩) (met_X0_largestRectangle l b oL _ hBo _ _ _ _ (fun z H1 => z = ((larR (mg S s) : Nat) : Int) ∧ pb_F (fun q => q < H.size) H H1) g6 (by decide) (met_X1_largestRectangle l b sl pv V _ (mg S) hS s hs) (fun z H1 hz => ⟨(hP.k1 hz.2).1, (hP.k1 hz.2).2, by have h9 := hz.1; have hb9 := (lar_le hgs).1; omega⟩) h6 h8) (fun H2 hM => rd_ok (met_X3_largestRectangle l o S hM s hs h2))
  · exact StepI_x hI (by decide +kernel) (by decide +kernel) (by decide) (by decide) (mex_X0_largestRectangle_1 l b oL _ hBo _ _ _ _ (by decide) (mex_X1_largestRectangle_1 l hlx b _ hBo a1 ra1 c1)) (fun H2 hM => fx_ok (met_X3_largestRectangle_1 l o S hM a1 ra1 c1))
set_option maxHeartbeats 1000000 in
theorem stp_largestRectangleByCells {w : pb_W} (l : Launch) (hlx : l.stackTraces = false) {H : Heap} {b sl o oL oD : Nat} {S : mS} (hI : LWI w H b sl o oL oD S) (a1 : Int) (ra1 : -2147483648 ≤ a1 ∧ a1 ≤ 2147483647) : StepI w l yX0_largestRectangleByCells cX0_largestRectangleByCells 4 [(0, 9, 12, 13)] yX3_largestRectangleByCells cX3_largestRectangleByCells 2 .int  [.ref b, .int (iZ (a1)), .ref oL] [.ref o, .int (iZ (a1))] H b sl o oL oD := by
  obtain ⟨M, e, V, G, pv, hP⟩ := id hI
  have hP := hP.g
  obtain ⟨h1, h2, h3, h4, h5, ⟨g6, h6⟩, ⟨g7, h7⟩, h8, h9, -⟩ := id hP
  have hS := h3.sq
  have hBo := h3.1.r
  by_cases c1 : 0 ≤ a1 ∧ a1 ≤ 7
  · obtain ⟨s, rfl, hs⟩ := sh_nat c1
    have hgs : gok (mg S s) := mg_ok h2 hs
    exact StepI_r hP (P1 := fun z => z = ((larR (mg S s) : Nat) : Int)) (P3 := fun z => z = ((larR (mg S s) : Nat) : Int)) (by decide +kernel) (by decide +kernel) (by decide) (fun z z' e1 e3 => ⟨e1.trans e3.symm, (by have h9 := e1; have hb9 := (lar_le hgs).1; omega), fun h => by cases h⟩) (met_X0_largestRectangleByCells l b oL _ hBo _ _ _ _ (fun z H1 => z = ((larR (mg S s) : Nat) : Int) ∧ pb_F (fun q => q < H.size) H H1) g6 (by decide) (met_X1_largestRectangleByCells l b sl pv V _ (mg S) hS s hs) (fun z H1 hz => ⟨(hP.k1 hz.2).1, (hP.k1 hz.2).2, by have h9 := hz.1; have hb9 := (lar_le hgs).1; omega⟩) h6 h8) (fun H2 hM => rd_ok (met_X3_largestRectangleByCells l o S hM s hs h2))
  · exact StepI_x hI (by decide +kernel) (by decide +kernel) (by decide) (by decide) (mex_X0_largestRectangleByCells_1 l b oL _ hBo _ _ _ _ (by decide) (mex_X1_largestRectangleByCells_1 l hlx b _ hBo a1 ra1 c1)) (fun H2 hM => fx_ok (met_X3_largestRectangleByCells_1 l o S hM a1 ra1 c1))
set_option maxHeartbeats 1000000 in
theorem stp_largestSquare {w : pb_W} (l : Launch) (hlx : l.stackTraces = false) {H : Heap} {b sl o oL oD : Nat} {S : mS} (hI : LWI w H b sl o oL oD S) (a1 : Int) (ra1 : -2147483648 ≤ a1 ∧ a1 ≤ 2147483647) : StepI w l yX0_largestSquare cX0_largestSquare 4 [(0, 9, 12, 13)] yX3_largestSquare cX3_largestSquare 8 .int  [.ref b, .int (iZ (a1)), .ref oL] [.ref o, .int (iZ (a1))] H b sl o oL oD := by
  obtain ⟨M, e, V, G, pv, hP⟩ := id hI
  have hP := hP.g
  obtain ⟨h1, h2, h3, h4, h5, ⟨g6, h6⟩, ⟨g7, h7⟩, h8, h9, -⟩ := id hP
  have hS := h3.sq
  have hBo := h3.1.r
  by_cases c1 : 0 ≤ a1 ∧ a1 ≤ 7
  · obtain ⟨s, rfl, hs⟩ := sh_nat c1
    have hgs : gok (mg S s) := mg_ok h2 hs
    exact StepI_r hP (P1 := fun z => z = ((larS (mg S s) : Nat) : Int)) (P3 := fun z => z = ((larS (mg S s) : Nat) : Int)) (by decide +kernel) (by decide +kernel) (by decide) (fun z z' e1 e3 => ⟨e1.trans e3.symm, (by have h9 := e1; have hb9 := (lar_le hgs).2; omega), fun h => by cases h⟩) (met_X0_largestSquare l b oL _ hBo _ _ _ _ (fun z H1 => z = ((larS (mg S s) : Nat) : Int) ∧ pb_F (fun q => q < H.size) H H1) g6 (by decide) (met_X1_largestSquare l b sl pv V _ (mg S) hS s hs) (fun z H1 hz => ⟨(hP.k1 hz.2).1, (hP.k1 hz.2).2, by have h9 := hz.1; have hb9 := (lar_le hgs).2; omega⟩) h6 h8) (fun H2 hM => rd_ok (met_X3_largestSquare l o S hM s hs h2))
  · exact StepI_x hI (by decide +kernel) (by decide +kernel) (by decide) (by decide) (mex_X0_largestSquare_1 l b oL _ hBo _ _ _ _ (by decide) (mex_X1_largestSquare_1 l hlx b _ hBo a1 ra1 c1)) (fun H2 hM => fx_ok (met_X3_largestSquare_1 l o S hM a1 ra1 c1))
set_option maxHeartbeats 1000000 in
theorem stp_largestSquareByCells {w : pb_W} (l : Launch) (hlx : l.stackTraces = false) {H : Heap} {b sl o oL oD : Nat} {S : mS} (hI : LWI w H b sl o oL oD S) (a1 : Int) (ra1 : -2147483648 ≤ a1 ∧ a1 ≤ 2147483647) : StepI w l yX0_largestSquareByCells cX0_largestSquareByCells 4 [(0, 9, 12, 13)] yX3_largestSquareByCells cX3_largestSquareByCells 2 .int  [.ref b, .int (iZ (a1)), .ref oL] [.ref o, .int (iZ (a1))] H b sl o oL oD := by
  obtain ⟨M, e, V, G, pv, hP⟩ := id hI
  have hP := hP.g
  obtain ⟨h1, h2, h3, h4, h5, ⟨g6, h6⟩, ⟨g7, h7⟩, h8, h9, -⟩ := id hP
  have hS := h3.sq
  have hBo := h3.1.r
  by_cases c1 : 0 ≤ a1 ∧ a1 ≤ 7
  · obtain ⟨s, rfl, hs⟩ := sh_nat c1
    have hgs : gok (mg S s) := mg_ok h2 hs
    exact StepI_r hP (P1 := fun z => z = ((larS (mg S s) : Nat) : Int)) (P3 := fun z => z = ((larS (mg S s) : Nat) : Int)) (by decide +kernel) (by decide +kernel) (by decide) (fun z z' e1 e3 => ⟨e1.trans e3.symm, (by have h9 := e1; have hb9 := (lar_le hgs).2; omega), fun h => by cases h⟩) (met_X0_largestSquareByCells l b oL _ hBo _ _ _ _ (fun z H1 => z = ((larS (mg S s) : Nat) : Int) ∧ pb_F (fun q => q < H.size) H H1) g6 (by decide) (met_X1_largestSquareByCells l b sl pv V _ (mg S) hS s hs) (fun z H1 hz => ⟨(hP.k1 hz.2).1, (hP.k1 hz.2).2, by have h9 := hz.1; have hb9 := (lar_le hgs).2; omega⟩) h6 h8) (fun H2 hM => rd_ok (met_X3_largestSquareByCells l o S hM s hs h2))
  · exact StepI_x hI (by decide +kernel) (by decide +kernel) (by decide) (by decide) (mex_X0_largestSquareByCells_1 l b oL _ hBo _ _ _ _ (by decide) (mex_X1_largestSquareByCells_1 l hlx b _ hBo a1 ra1 c1)) (fun H2 hM => fx_ok (met_X3_largestSquareByCells_1 l o S hM a1 ra1 c1))
set_option maxHeartbeats 1000000 in
theorem stp_outlineCount {w : pb_W} (l : Launch) (hlx : l.stackTraces = false) {H : Heap} {b sl o oL oD : Nat} {S : mS} (hI : LWI w H b sl o oL oD S) (a1 : Int) (ra1 : -2147483648 ≤ a1 ∧ a1 ≤ 2147483647) : StepI w l yX0_outlineCount cX0_outlineCount 4 [(0, 9, 12, 13)] yX3_outlineCount cX3_outlineCount 2 .int  [.ref b, .int (iZ (a1)), .ref oL] [.ref o, .int (iZ (a1))] H b sl o oL oD := by
  obtain ⟨M, e, V, G, pv, hP⟩ := id hI
  have hP := hP.g
  obtain ⟨h1, h2, h3, h4, h5, ⟨g6, h6⟩, ⟨g7, h7⟩, h8, h9, -⟩ := id hP
  have hS := h3.sq
  have hBo := h3.1.r
  by_cases c1 : 0 ≤ a1 ∧ a1 ≤ 7
  · obtain ⟨s, rfl, hs⟩ := sh_nat c1
    have hgs : gok (mg S s) := mg_ok h2 hs
    exact StepI_r hP (P1 := fun z => z = (((outs (mg S s) 2500).length : Nat) : Int)) (P3 := fun z => z = (((outs (mg S s) 2500).length : Nat) : Int)) (by decide +kernel) (by decide +kernel) (by decide) (fun z z' e1 e3 => ⟨e1.trans e3.symm, (by have h9 := e1; have hb9 := outs_le (mg S s) 2500; omega), fun h => by cases h⟩) (met_X0_outlineCount l b oL _ hBo _ _ _ _ (fun z H1 => z = (((outs (mg S s) 2500).length : Nat) : Int) ∧ pb_F (fun q => q < H.size) H H1) g6 (by decide) (met_X1_outlineCount l b sl pv V _ (mg S) hS s hs) (fun z H1 hz => ⟨(hP.k1 hz.2).1, (hP.k1 hz.2).2, by have h9 := hz.1; have hb9 := outs_le (mg S s) 2500; omega⟩) h6 h8) (fun H2 hM => rdT_ok (met_X3_outlineCount l o S hM s hs h2))
  · exact StepI_x hI (by decide +kernel) (by decide +kernel) (by decide) (by decide) (mex_X0_outlineCount_1 l b oL _ hBo _ _ _ _ (by decide) (mex_X1_outlineCount_1 l hlx b _ hBo a1 ra1 c1)) (fun H2 hM => fx_ok (met_X3_outlineCount_1 l o S hM a1 ra1 c1))
set_option maxHeartbeats 1000000 in
theorem stp_partCount {w : pb_W} (l : Launch) (hlx : l.stackTraces = false) {H : Heap} {b sl o oL oD : Nat} {S : mS} (hI : LWI w H b sl o oL oD S) (a1 : Int) (ra1 : -2147483648 ≤ a1 ∧ a1 ≤ 2147483647) : StepI w l yX0_partCount cX0_partCount 4 [(0, 9, 12, 13)] yX3_partCount cX3_partCount 2 .int  [.ref b, .int (iZ (a1)), .ref oL] [.ref o, .int (iZ (a1))] H b sl o oL oD := by
  obtain ⟨M, e, V, G, pv, hP⟩ := id hI
  have hP := hP.g
  obtain ⟨h1, h2, h3, h4, h5, ⟨g6, h6⟩, ⟨g7, h7⟩, h8, h9, -⟩ := id hP
  have hS := h3.sq
  have hBo := h3.1.r
  by_cases c1 : 0 ≤ a1 ∧ a1 ≤ 7
  · obtain ⟨s, rfl, hs⟩ := sh_nat c1
    have hgs : gok (mg S s) := mg_ok h2 hs
    refine StepI_r hP (P1 := fun z => z = ((ctP (mg S s) false 600 : Nat) : Int)) (P3 := fun z => ∃ n : Nat, z = (fun x => x) ((n : Nat) : Int) ∧ PCr false n (fun i => gins (mg S s) i)) (by decide +kernel) (by decide +kernel) (by decide) ?_ (met_X0_partCount l b oL _ hBo _ _ _ _ (fun z H1 => z = ((ctP (mg S s) false 600 : Nat) : Int) ∧ pb_F (fun q => q < H.size) H H1) g6 (by decide) (met_X1_partCount l b sl pv V _ (mg S) hS s hs) (fun z H1 hz => ⟨(hP.k1 hz.2).1, (hP.k1 hz.2).2, by have h9 := hz.1; have hb9 := ctP_le (mg S s) false 600; omega⟩) h6 h8) (fun H2 hM => rdP_ok (f := fun x => x) (met_X3_partCount l o S hM s hs h2))
    rintro z z' e1 ⟨n, e3, hn⟩
    have h8 := (part_law hgs hn).1
    have hb9 := ctP_le (mg S s) false 600
    dsimp only at e1 e3
    exact ⟨by omega, by omega, fun h => by cases h⟩
  · exact StepI_x hI (by decide +kernel) (by decide +kernel) (by decide) (by decide) (mex_X0_partCount_1 l b oL _ hBo _ _ _ _ (by decide) (mex_X1_partCount_1 l hlx b _ hBo a1 ra1 c1)) (fun H2 hM => fx_ok (met_X3_partCount_1 l o S hM a1 ra1 c1))
set_option maxHeartbeats 1000000 in
theorem stp_partCountByCells {w : pb_W} (l : Launch) (hlx : l.stackTraces = false) {H : Heap} {b sl o oL oD : Nat} {S : mS} (hI : LWI w H b sl o oL oD S) (a1 : Int) (ra1 : -2147483648 ≤ a1 ∧ a1 ≤ 2147483647) : StepI w l yX0_partCountByCells cX0_partCountByCells 4 [(0, 9, 12, 13)] yX3_partCountByCells cX3_partCountByCells 2 .int  [.ref b, .int (iZ (a1)), .ref oL] [.ref o, .int (iZ (a1))] H b sl o oL oD := by
  obtain ⟨M, e, V, G, pv, hP⟩ := id hI
  have hP := hP.g
  obtain ⟨h1, h2, h3, h4, h5, ⟨g6, h6⟩, ⟨g7, h7⟩, h8, h9, -⟩ := id hP
  have hS := h3.sq
  have hBo := h3.1.r
  by_cases c1 : 0 ≤ a1 ∧ a1 ≤ 7
  · obtain ⟨s, rfl, hs⟩ := sh_nat c1
    have hgs : gok (mg S s) := mg_ok h2 hs
    refine StepI_r hP (P1 := fun z => z = ((ctP (mg S s) false 600 : Nat) : Int)) (P3 := fun z => ∃ n : Nat, z = (fun x => x) ((n : Nat) : Int) ∧ PCr false n (fun i => gins (mg S s) i)) (by decide +kernel) (by decide +kernel) (by decide) ?_ (met_X0_partCountByCells l b oL _ hBo _ _ _ _ (fun z H1 => z = ((ctP (mg S s) false 600 : Nat) : Int) ∧ pb_F (fun q => q < H.size) H H1) g6 (by decide) (met_X1_partCountByCells l b sl pv V _ (mg S) hS s hs) (fun z H1 hz => ⟨(hP.k1 hz.2).1, (hP.k1 hz.2).2, by have h9 := hz.1; have hb9 := ctP_le (mg S s) false 600; omega⟩) h6 h8) (fun H2 hM => rdP_ok (f := fun x => x) (met_X3_partCountByCells l o S hM s hs h2))
    rintro z z' e1 ⟨n, e3, hn⟩
    have h8 := (part_law hgs hn).1
    have hb9 := ctP_le (mg S s) false 600
    dsimp only at e1 e3
    exact ⟨by omega, by omega, fun h => by cases h⟩
  · exact StepI_x hI (by decide +kernel) (by decide +kernel) (by decide) (by decide) (mex_X0_partCountByCells_1 l b oL _ hBo _ _ _ _ (by decide) (mex_X1_partCountByCells_1 l hlx b _ hBo a1 ra1 c1)) (fun H2 hM => fx_ok (met_X3_partCountByCells_1 l o S hM a1 ra1 c1))
set_option maxHeartbeats 1000000 in
theorem stp_holeCount {w : pb_W} (l : Launch) (hlx : l.stackTraces = false) {H : Heap} {b sl o oL oD : Nat} {S : mS} (hI : LWI w H b sl o oL oD S) (a1 : Int) (ra1 : -2147483648 ≤ a1 ∧ a1 ≤ 2147483647) : StepI w l yX0_holeCount cX0_holeCount 4 [(0, 9, 12, 13)] yX3_holeCount cX3_holeCount 2 .int  [.ref b, .int (iZ (a1)), .ref oL] [.ref o, .int (iZ (a1))] H b sl o oL oD := by
  obtain ⟨M, e, V, G, pv, hP⟩ := id hI
  have hP := hP.g
  obtain ⟨h1, h2, h3, h4, h5, ⟨g6, h6⟩, ⟨g7, h7⟩, h8, h9, -⟩ := id hP
  have hS := h3.sq
  have hBo := h3.1.r
  by_cases c1 : 0 ≤ a1 ∧ a1 ≤ 7
  · obtain ⟨s, rfl, hs⟩ := sh_nat c1
    have hgs : gok (mg S s) := mg_ok h2 hs
    refine StepI_r hP (P1 := fun z => z = (((negL (mg S s)).length : Nat) : Int)) (P3 := fun z => ∃ n : Nat, z = (fun x => x - 1) ((n : Nat) : Int) ∧ PCr true n (fun i => gout (mg S s) i)) (by decide +kernel) (by decide +kernel) (by decide) ?_ (met_X0_holeCount l b oL _ hBo _ _ _ _ (fun z H1 => z = (((negL (mg S s)).length : Nat) : Int) ∧ pb_F (fun q => q < H.size) H H1) g6 (by decide) (met_X1_holeCount l b sl pv V _ (mg S) hS s hs) (fun z H1 hz => ⟨(hP.k1 hz.2).1, (hP.k1 hz.2).2, by have h9 := hz.1; have hb9 := negL_le (mg S s); omega⟩) h6 h8) (fun H2 hM => rdP_ok (f := fun x => x - 1) (met_X3_holeCount l o S hM s hs h2))
    rintro z z' e1 ⟨n, e3, hn⟩
    have h8 := holeO_law hgs hn
    have hb9 := negL_le (mg S s)
    dsimp only at e1 e3
    exact ⟨by omega, by omega, fun h => by cases h⟩
  · exact StepI_x hI (by decide +kernel) (by decide +kernel) (by decide) (by decide) (mex_X0_holeCount_1 l b oL _ hBo _ _ _ _ (by decide) (mex_X1_holeCount_1 l hlx b _ hBo a1 ra1 c1)) (fun H2 hM => fx_ok (met_X3_holeCount_1 l o S hM a1 ra1 c1))
set_option maxHeartbeats 1000000 in
theorem stp_holeCountByCells {w : pb_W} (l : Launch) (hlx : l.stackTraces = false) {H : Heap} {b sl o oL oD : Nat} {S : mS} (hI : LWI w H b sl o oL oD S) (a1 : Int) (ra1 : -2147483648 ≤ a1 ∧ a1 ≤ 2147483647) : StepI w l yX0_holeCountByCells cX0_holeCountByCells 4 [(0, 9, 12, 13)] yX3_holeCountByCells cX3_holeCountByCells 2 .int  [.ref b, .int (iZ (a1)), .ref oL] [.ref o, .int (iZ (a1))] H b sl o oL oD := by
  obtain ⟨M, e, V, G, pv, hP⟩ := id hI
  have hP := hP.g
  obtain ⟨h1, h2, h3, h4, h5, ⟨g6, h6⟩, ⟨g7, h7⟩, h8, h9, -⟩ := id hP
  have hS := h3.sq
  have hBo := h3.1.r
  by_cases c1 : 0 ≤ a1 ∧ a1 ≤ 7
  · obtain ⟨s, rfl, hs⟩ := sh_nat c1
    have hgs : gok (mg S s) := mg_ok h2 hs
    refine StepI_r hP (P1 := fun z => z = ((ctP (otG (mg S s) 24) true 600 : Nat) : Int)) (P3 := fun z => ∃ n : Nat, z = (fun x => x - 1) ((n : Nat) : Int) ∧ PCr true n (fun i => gout (mg S s) i)) (by decide +kernel) (by decide +kernel) (by decide) ?_ (met_X0_holeCountByCells l b oL _ hBo _ _ _ _ (fun z H1 => z = ((ctP (otG (mg S s) 24) true 600 : Nat) : Int) ∧ pb_F (fun q => q < H.size) H H1) g6 (by decide) (met_X1_holeCountByCells l b sl pv V _ (mg S) hS s hs) (fun z H1 hz => ⟨(hP.k1 hz.2).1, (hP.k1 hz.2).2, by have h9 := hz.1; have hb9 := ctP_le (otG (mg S s) 24) true 600; omega⟩) h6 h8) (fun H2 hM => rdP_ok (f := fun x => x - 1) (met_X3_holeCountByCells l o S hM s hs h2))
    rintro z z' e1 ⟨n, e3, hn⟩
    have h8 := hole_law hgs hn
    have hb9 := ctP_le (otG (mg S s) 24) true 600
    dsimp only at e1 e3
    exact ⟨by omega, by omega, fun h => by cases h⟩
  · exact StepI_x hI (by decide +kernel) (by decide +kernel) (by decide) (by decide) (mex_X0_holeCountByCells_1 l b oL _ hBo _ _ _ _ (by decide) (mex_X1_holeCountByCells_1 l hlx b _ hBo a1 ra1 c1)) (fun H2 hM => fx_ok (met_X3_holeCountByCells_1 l o S hM a1 ra1 c1))
set_option maxHeartbeats 1000000 in
theorem stp_left {w : pb_W} (l : Launch) (hlx : l.stackTraces = false) {H : Heap} {b sl o oL oD : Nat} {S : mS} (hI : LWI w H b sl o oL oD S) (a1 : Int) (ra1 : -2147483648 ≤ a1 ∧ a1 ≤ 2147483647) : StepI w l yX0_left cX0_left 4 [(0, 9, 12, 13), (0, 9, 15, 64)] yX3_left cX3_left 3 .int  [.ref b, .int (iZ (a1)), .ref oL] [.ref o, .int (iZ (a1))] H b sl o oL oD := by
  obtain ⟨M, e, V, G, pv, hP⟩ := id hI
  have hP := hP.g
  obtain ⟨h1, h2, h3, h4, h5, ⟨g6, h6⟩, ⟨g7, h7⟩, h8, h9, -⟩ := id hP
  have hS := h3.sq
  have hBo := h3.1.r
  by_cases c1 : 0 ≤ a1 ∧ a1 ≤ 7
  · obtain ⟨s, rfl, hs⟩ := sh_nat c1
    have hgs : gok (mg S s) := mg_ok h2 hs
    by_cases h0 : cnt (mg S s) = 0
    · exact StepI_x hI (by decide +kernel) (by decide +kernel) (by decide) (by decide) (mex_X0_left_2 l b oL _ hBo _ _ _ _ (by decide) (mex_X1_left_2 l hlx b sl pv V _ (mg S) hS s hs h0)) (fun H2 hM => fx_ok (met_X3_left_2 l o S hM s hs h2 h0))
    · obtain ⟨xl, xr, xb, xt, hB⟩ := box_ex hgs h0
      have hbl := box_lt hB
      refine StepI_r hP (P1 := fun z => z = ((xl : Nat) : Int)) (P3 := fun z => ∃ x : Nat, z = ((x : Nat) : Int) ∧ x < 24 ∧ (shdw (mg S s) 24).testBit x = true ∧ ∀ i, i < x → (shdw (mg S s) 24).testBit i = false) (by decide +kernel) (by decide +kernel) (by decide) ?_ (met_X0_left l b oL _ hBo _ _ _ _ (fun z H1 => z = ((xl : Nat) : Int) ∧ pb_F (fun q => q < H.size) H H1) g6 (by decide) (met_X1_left l b sl pv V _ (mg S) hS s hs xl xr xb xt hB h0) (fun z H1 hz => ⟨(hP.k1 hz.2).1, (hP.k1 hz.2).2, by have h9 := hz.1; omega⟩) h6 h8) (fun H2 hM => rd_ok (met_X3_left l o S hM s hs h2 h0))
      rintro z z' e1 ⟨x, e3, hx, hb, hl⟩
      have hxx : x = xl := by
        obtain ⟨⟨a1, a2, a3⟩, -⟩ := hB
        rcases Nat.lt_trichotomy x xl with c | c | c
        · rw [a3 x c] at hb; cases hb
        · exact c
        · rw [hl xl c] at a2; cases a2
      exact ⟨by omega, by omega, fun h => by cases h⟩
  · exact StepI_x hI (by decide +kernel) (by decide +kernel) (by decide) (by decide) (mex_X0_left_1 l b oL _ hBo _ _ _ _ (by decide) (mex_X1_left_1 l hlx b _ hBo a1 ra1 c1)) (fun H2 hM => fx_ok (met_X3_left_1 l o S hM a1 ra1 c1))
set_option maxHeartbeats 1000000 in
theorem stp_right {w : pb_W} (l : Launch) (hlx : l.stackTraces = false) {H : Heap} {b sl o oL oD : Nat} {S : mS} (hI : LWI w H b sl o oL oD S) (a1 : Int) (ra1 : -2147483648 ≤ a1 ∧ a1 ≤ 2147483647) : StepI w l yX0_right cX0_right 4 [(0, 9, 12, 13), (0, 9, 15, 64)] yX3_right cX3_right 3 .int  [.ref b, .int (iZ (a1)), .ref oL] [.ref o, .int (iZ (a1))] H b sl o oL oD := by
  obtain ⟨M, e, V, G, pv, hP⟩ := id hI
  have hP := hP.g
  obtain ⟨h1, h2, h3, h4, h5, ⟨g6, h6⟩, ⟨g7, h7⟩, h8, h9, -⟩ := id hP
  have hS := h3.sq
  have hBo := h3.1.r
  by_cases c1 : 0 ≤ a1 ∧ a1 ≤ 7
  · obtain ⟨s, rfl, hs⟩ := sh_nat c1
    have hgs : gok (mg S s) := mg_ok h2 hs
    by_cases h0 : cnt (mg S s) = 0
    · exact StepI_x hI (by decide +kernel) (by decide +kernel) (by decide) (by decide) (mex_X0_right_2 l b oL _ hBo _ _ _ _ (by decide) (mex_X1_right_2 l hlx b sl pv V _ (mg S) hS s hs h0)) (fun H2 hM => fx_ok (met_X3_right_2 l o S hM s hs h2 h0))
    · obtain ⟨xl, xr, xb, xt, hB⟩ := box_ex hgs h0
      have hbl := box_lt hB
      refine StepI_r hP (P1 := fun z => z = ((xr : Nat) : Int)) (P3 := fun z => ∃ x : Nat, z = ((x : Nat) : Int) ∧ 1 ≤ x ∧ x ≤ 24 ∧ (shdw (mg S s) 24).testBit (x - 1) = true ∧ ∀ i, x ≤ i → i < 24 → (shdw (mg S s) 24).testBit i = false) (by decide +kernel) (by decide +kernel) (by decide) ?_ (met_X0_right l b oL _ hBo _ _ _ _ (fun z H1 => z = ((xr : Nat) : Int) ∧ pb_F (fun q => q < H.size) H H1) g6 (by decide) (met_X1_right l b sl pv V _ (mg S) hS s hs xl xr xb xt hB h0) (fun z H1 hz => ⟨(hP.k1 hz.2).1, (hP.k1 hz.2).2, by have h9 := hz.1; omega⟩) h6 h8) (fun H2 hM => rd_ok (met_X3_right l o S hM s hs h2 h0))
      rintro z z' e1 ⟨x, e3, hx, hx2, hb, hl⟩
      have hxx : x = xr := by
        obtain ⟨-, ⟨a1, a2, a3, a4⟩, -⟩ := hB
        rcases Nat.lt_trichotomy x xr with c | c | c
        · rw [hl (xr - 1) (by omega) (by omega)] at a3; cases a3
        · exact c
        · rw [a4 (x - 1) (by omega) (by omega)] at hb; cases hb
      exact ⟨by omega, by omega, fun h => by cases h⟩
  · exact StepI_x hI (by decide +kernel) (by decide +kernel) (by decide) (by decide) (mex_X0_right_1 l b oL _ hBo _ _ _ _ (by decide) (mex_X1_right_1 l hlx b _ hBo a1 ra1 c1)) (fun H2 hM => fx_ok (met_X3_right_1 l o S hM a1 ra1 c1))
set_option maxHeartbeats 1000000 in
theorem stp_bottom {w : pb_W} (l : Launch) (hlx : l.stackTraces = false) {H : Heap} {b sl o oL oD : Nat} {S : mS} (hI : LWI w H b sl o oL oD S) (a1 : Int) (ra1 : -2147483648 ≤ a1 ∧ a1 ≤ 2147483647) : StepI w l yX0_bottom cX0_bottom 4 [(0, 9, 12, 13), (0, 9, 15, 64)] yX3_bottom cX3_bottom 3 .int  [.ref b, .int (iZ (a1)), .ref oL] [.ref o, .int (iZ (a1))] H b sl o oL oD := by
  obtain ⟨M, e, V, G, pv, hP⟩ := id hI
  have hP := hP.g
  obtain ⟨h1, h2, h3, h4, h5, ⟨g6, h6⟩, ⟨g7, h7⟩, h8, h9, -⟩ := id hP
  have hS := h3.sq
  have hBo := h3.1.r
  by_cases c1 : 0 ≤ a1 ∧ a1 ≤ 7
  · obtain ⟨s, rfl, hs⟩ := sh_nat c1
    have hgs : gok (mg S s) := mg_ok h2 hs
    by_cases h0 : cnt (mg S s) = 0
    · exact StepI_x hI (by decide +kernel) (by decide +kernel) (by decide) (by decide) (mex_X0_bottom_2 l b oL _ hBo _ _ _ _ (by decide) (mex_X1_bottom_2 l hlx b sl pv V _ (mg S) hS s hs h0)) (fun H2 hM => fx_ok (met_X3_bottom_2 l o S hM s hs h2 h0))
    · obtain ⟨xl, xr, xb, xt, hB⟩ := box_ex hgs h0
      have hbl := box_lt hB
      refine StepI_r hP (P1 := fun z => z = ((xb : Nat) : Int)) (P3 := fun z => ∃ x : Nat, z = ((x : Nat) : Int) ∧ x < 24 ∧ (mg S s) x ≠ 0 ∧ ∀ i, i < x → (mg S s) i = 0) (by decide +kernel) (by decide +kernel) (by decide) ?_ (met_X0_bottom l b oL _ hBo _ _ _ _ (fun z H1 => z = ((xb : Nat) : Int) ∧ pb_F (fun q => q < H.size) H H1) g6 (by decide) (met_X1_bottom l b sl pv V _ (mg S) hS s hs xl xr xb xt hB h0) (fun z H1 hz => ⟨(hP.k1 hz.2).1, (hP.k1 hz.2).2, by have h9 := hz.1; omega⟩) h6 h8) (fun H2 hM => rd_ok (met_X3_bottom l o S hM s hs h2 h0))
      rintro z z' e1 ⟨x, e3, hx, hb, hl⟩
      have hxx : x = xb := by
        obtain ⟨-, -, ⟨a1, a2, a3⟩, -⟩ := hB
        rcases Nat.lt_trichotomy x xb with c | c | c
        · exact absurd (a3 x c) hb
        · exact c
        · exact absurd (hl xb c) a2
      exact ⟨by omega, by omega, fun h => by cases h⟩
  · exact StepI_x hI (by decide +kernel) (by decide +kernel) (by decide) (by decide) (mex_X0_bottom_1 l b oL _ hBo _ _ _ _ (by decide) (mex_X1_bottom_1 l hlx b _ hBo a1 ra1 c1)) (fun H2 hM => fx_ok (met_X3_bottom_1 l o S hM a1 ra1 c1))
set_option maxHeartbeats 1000000 in
theorem stp_top {w : pb_W} (l : Launch) (hlx : l.stackTraces = false) {H : Heap} {b sl o oL oD : Nat} {S : mS} (hI : LWI w H b sl o oL oD S) (a1 : Int) (ra1 : -2147483648 ≤ a1 ∧ a1 ≤ 2147483647) : StepI w l yX0_top cX0_top 4 [(0, 9, 12, 13), (0, 9, 15, 64)] yX3_top cX3_top 3 .int  [.ref b, .int (iZ (a1)), .ref oL] [.ref o, .int (iZ (a1))] H b sl o oL oD := by
  obtain ⟨M, e, V, G, pv, hP⟩ := id hI
  have hP := hP.g
  obtain ⟨h1, h2, h3, h4, h5, ⟨g6, h6⟩, ⟨g7, h7⟩, h8, h9, -⟩ := id hP
  have hS := h3.sq
  have hBo := h3.1.r
  by_cases c1 : 0 ≤ a1 ∧ a1 ≤ 7
  · obtain ⟨s, rfl, hs⟩ := sh_nat c1
    have hgs : gok (mg S s) := mg_ok h2 hs
    by_cases h0 : cnt (mg S s) = 0
    · exact StepI_x hI (by decide +kernel) (by decide +kernel) (by decide) (by decide) (mex_X0_top_2 l b oL _ hBo _ _ _ _ (by decide) (mex_X1_top_2 l hlx b sl pv V _ (mg S) hS s hs h0)) (fun H2 hM => fx_ok (met_X3_top_2 l o S hM s hs h2 h0))
    · obtain ⟨xl, xr, xb, xt, hB⟩ := box_ex hgs h0
      have hbl := box_lt hB
      refine StepI_r hP (P1 := fun z => z = ((xt : Nat) : Int)) (P3 := fun z => ∃ x : Nat, z = ((x : Nat) : Int) ∧ 1 ≤ x ∧ x ≤ 24 ∧ (mg S s) (x - 1) ≠ 0 ∧ ∀ i, x ≤ i → (mg S s) i = 0) (by decide +kernel) (by decide +kernel) (by decide) ?_ (met_X0_top l b oL _ hBo _ _ _ _ (fun z H1 => z = ((xt : Nat) : Int) ∧ pb_F (fun q => q < H.size) H H1) g6 (by decide) (met_X1_top l b sl pv V _ (mg S) hS s hs xl xr xb xt hB h0) (fun z H1 hz => ⟨(hP.k1 hz.2).1, (hP.k1 hz.2).2, by have h9 := hz.1; omega⟩) h6 h8) (fun H2 hM => rd_ok (met_X3_top l o S hM s hs h2 h0))
      rintro z z' e1 ⟨x, e3, hx, hx2, hb, hl⟩
      have hxx : x = xt := by
        obtain ⟨-, -, -, a1, a2, a3, a4⟩ := hB
        rcases Nat.lt_trichotomy x xt with c | c | c
        · exact absurd (hl (xt - 1) (by omega)) a3
        · exact c
        · exact absurd (a4 (x - 1) (by omega)) hb
      exact ⟨by omega, by omega, fun h => by cases h⟩
  · exact StepI_x hI (by decide +kernel) (by decide +kernel) (by decide) (by decide) (mex_X0_top_1 l b oL _ hBo _ _ _ _ (by decide) (mex_X1_top_1 l hlx b _ hBo a1 ra1 c1)) (fun H2 hM => fx_ok (met_X3_top_1 l o S hM a1 ra1 c1))
set_option maxHeartbeats 1000000 in
theorem stp_contains {w : pb_W} (l : Launch) (hlx : l.stackTraces = false) {H : Heap} {b sl o oL oD : Nat} {S : mS} (hI : LWI w H b sl o oL oD S) (a1 : Int) (ra1 : -2147483648 ≤ a1 ∧ a1 ≤ 2147483647) (a2 : Int) (ra2 : -2147483648 ≤ a2 ∧ a2 ≤ 2147483647) (a3 : Int) (ra3 : -2147483648 ≤ a3 ∧ a3 ≤ 2147483647) : StepI w l yX0_contains cX0_contains 6 [(0, 19, 22, 13), (0, 19, 26, 15)] yX3_contains cX3_contains 4 .boolean  [.ref b, .int (iZ (a1)), .int (iZ (a2)), .int (iZ (a3)), .ref oL] [.ref o, .int (iZ (a1)), .int (iZ (a2)), .int (iZ (a3))] H b sl o oL oD := by
  obtain ⟨M, e, V, G, pv, hP⟩ := id hI
  have hP := hP.g
  obtain ⟨h1, h2, h3, h4, h5, ⟨g6, h6⟩, ⟨g7, h7⟩, h8, h9, -⟩ := id hP
  have hS := h3.sq
  have hBo := h3.1.r
  by_cases c1 : 0 ≤ a1 ∧ a1 ≤ 7
  · obtain ⟨s, rfl, hs⟩ := sh_nat c1
    have hgs : gok (mg S s) := mg_ok h2 hs
    by_cases c2 : (0 ≤ a2 ∧ a2 ≤ 23) ∧ 0 ≤ a3 ∧ a3 ≤ 23
    · exact StepI_r hP (P1 := fun z => z = bI (gc (mg S s) a2 a3)) (P3 := fun z => z = bI (gc (mg S s) a2 a3)) (by decide +kernel) (by decide +kernel) (by decide) (fun z z' e1 e3 => ⟨e1.trans e3.symm, (by have h9 := e1; have hb9 := bI_r (gc (mg S s) a2 a3); omega), fun _ => (by have h9 := e1; have hb9 := bI_r (gc (mg S s) a2 a3); omega)⟩) (met_X0_contains l b oL _ hBo _ _ _ _ _ _ (fun z H1 => z = bI (gc (mg S s) a2 a3) ∧ pb_F (fun q => q < H.size) H H1) g6 (by decide) (met_X1_contains l b sl pv V _ (mg S) hS s hs a2 a3 c2.1 c2.2) (fun z H1 hz => ⟨(hP.k1 hz.2).1, (hP.k1 hz.2).2, by have h9 := hz.1; have hb9 := bI_r (gc (mg S s) a2 a3); omega⟩) h6 h8) (fun H2 hM => rd_ok (met_X3_contains l o S hM s hs h2 a2 a3 ra2 ra3 c2))
    · exact StepI_x hI (by decide +kernel) (by decide +kernel) (by decide) (by decide) (mex_X0_contains_2 l b oL _ hBo _ _ _ _ _ _ (by decide) (mex_X1_contains_2 l hlx b sl pv V _ (mg S) hS s hs a2 a3 ra2 ra3 c2)) (fun H2 hM => fx_ok (met_X3_contains_2 l o S hM s hs a2 a3 ra2 ra3 c2))
  · exact StepI_x hI (by decide +kernel) (by decide +kernel) (by decide) (by decide) (mex_X0_contains_1 l b oL _ hBo _ _ _ _ _ _ (by decide) (mex_X1_contains_1 l hlx b _ hBo a1 ra1 c1 a2 a3)) (fun H2 hM => fx_ok (met_X3_contains_1 l o S hM a1 ra1 c1 a2 a3 ra2 ra3))
set_option maxHeartbeats 1000000 in
theorem stp_isSame {w : pb_W} (l : Launch) (hlx : l.stackTraces = false) {H : Heap} {b sl o oL oD : Nat} {S : mS} (hI : LWI w H b sl o oL oD S) (a1 : Int) (ra1 : -2147483648 ≤ a1 ∧ a1 ≤ 2147483647) (a2 : Int) (ra2 : -2147483648 ≤ a2 ∧ a2 ≤ 2147483647) : StepI w l yX0_isSame cX0_isSame 5 [(0, 17, 20, 13)] yX3_isSame cX3_isSame 5 .boolean  [.ref b, .int (iZ (a1)), .int (iZ (a2)), .ref oL] [.ref o, .int (iZ (a1)), .int (iZ (a2))] H b sl o oL oD := by
  obtain ⟨M, e, V, G, pv, hP⟩ := id hI
  have hP := hP.g
  obtain ⟨h1, h2, h3, h4, h5, ⟨g6, h6⟩, ⟨g7, h7⟩, h8, h9, -⟩ := id hP
  have hS := h3.sq
  have hBo := h3.1.r
  by_cases c1 : (0 ≤ a1 ∧ a1 ≤ 7) ∧ 0 ≤ a2 ∧ a2 ≤ 7
  · obtain ⟨s, rfl, hs⟩ := sh_nat c1.1
    obtain ⟨t, rfl, ht⟩ := sh_nat c1.2
    have hgs : gok (mg S s) := mg_ok h2 hs
    have hgt : gok (mg S t) := mg_ok h2 ht
    exact StepI_r hP (P1 := fun z => z = bI (allB (fun y => decide (mg S s y = mg S t y)) 24)) (P3 := fun z => z = bI (allB (fun y => decide (mg S s y = mg S t y)) 24)) (by decide +kernel) (by decide +kernel) (by decide) (fun z z' e1 e3 => ⟨e1.trans e3.symm, (by have h9 := e1; have hb9 := bI_r (allB (fun y => decide (mg S s y = mg S t y)) 24); omega), fun _ => (by have h9 := e1; have hb9 := bI_r (allB (fun y => decide (mg S s y = mg S t y)) 24); omega)⟩) (met_X0_isSame l b oL _ hBo _ _ _ _ _ (fun z H1 => z = bI (allB (fun y => decide (mg S s y = mg S t y)) 24) ∧ pb_F (fun q => q < H.size) H H1) g6 (by decide) (met_X1_isSame l b sl pv V _ (mg S) hS s hs t ht) (fun z H1 hz => ⟨(hP.k1 hz.2).1, (hP.k1 hz.2).2, by have h9 := hz.1; have hb9 := bI_r (allB (fun y => decide (mg S s y = mg S t y)) 24); omega⟩) h6 h8) (fun H2 hM => rd_ok (met_X3_isSame l o S hM s t hs ht h2))
  · exact StepI_x hI (by decide +kernel) (by decide +kernel) (by decide) (by decide) (mex_X0_isSame_1 l b oL _ hBo _ _ _ _ _ (by decide) (mex_X1_isSame_1 l hlx b sl pv V _ (mg S) hS a1 a2 ra1 ra2 c1)) (fun H2 hM => fx_ok (met_X3_isSame_1 l o S hM a1 a2 ra1 ra2 c1))
set_option maxHeartbeats 1000000 in
theorem stp_covers {w : pb_W} (l : Launch) (hlx : l.stackTraces = false) {H : Heap} {b sl o oL oD : Nat} {S : mS} (hI : LWI w H b sl o oL oD S) (a1 : Int) (ra1 : -2147483648 ≤ a1 ∧ a1 ≤ 2147483647) (a2 : Int) (ra2 : -2147483648 ≤ a2 ∧ a2 ≤ 2147483647) : StepI w l yX0_covers cX0_covers 5 [(0, 17, 20, 13)] yX3_covers cX3_covers 5 .boolean  [.ref b, .int (iZ (a1)), .int (iZ (a2)), .ref oL] [.ref o, .int (iZ (a1)), .int (iZ (a2))] H b sl o oL oD := by
  obtain ⟨M, e, V, G, pv, hP⟩ := id hI
  have hP := hP.g
  obtain ⟨h1, h2, h3, h4, h5, ⟨g6, h6⟩, ⟨g7, h7⟩, h8, h9, -⟩ := id hP
  have hS := h3.sq
  have hBo := h3.1.r
  by_cases c1 : (0 ≤ a1 ∧ a1 ≤ 7) ∧ 0 ≤ a2 ∧ a2 ≤ 7
  · obtain ⟨s, rfl, hs⟩ := sh_nat c1.1
    obtain ⟨t, rfl, ht⟩ := sh_nat c1.2
    have hgs : gok (mg S s) := mg_ok h2 hs
    have hgt : gok (mg S t) := mg_ok h2 ht
    exact StepI_r hP (P1 := fun z => z = bI (allB (fun y => decide (pb_dif (mg S t y) (mg S s y) = 0)) 24)) (P3 := fun z => z = bI (allB (fun y => decide (pb_dif (mg S t y) (mg S s y) = 0)) 24)) (by decide +kernel) (by decide +kernel) (by decide) (fun z z' e1 e3 => ⟨e1.trans e3.symm, (by have h9 := e1; have hb9 := bI_r (allB (fun y => decide (pb_dif (mg S t y) (mg S s y) = 0)) 24); omega), fun _ => (by have h9 := e1; have hb9 := bI_r (allB (fun y => decide (pb_dif (mg S t y) (mg S s y) = 0)) 24); omega)⟩) (met_X0_covers l b oL _ hBo _ _ _ _ _ (fun z H1 => z = bI (allB (fun y => decide (pb_dif (mg S t y) (mg S s y) = 0)) 24) ∧ pb_F (fun q => q < H.size) H H1) g6 (by decide) (met_X1_covers l b sl pv V _ (mg S) hS s hs t ht) (fun z H1 hz => ⟨(hP.k1 hz.2).1, (hP.k1 hz.2).2, by have h9 := hz.1; have hb9 := bI_r (allB (fun y => decide (pb_dif (mg S t y) (mg S s y) = 0)) 24); omega⟩) h6 h8) (fun H2 hM => rd_ok (met_X3_covers l o S hM s t hs ht h2))
  · exact StepI_x hI (by decide +kernel) (by decide +kernel) (by decide) (by decide) (mex_X0_covers_1 l b oL _ hBo _ _ _ _ _ (by decide) (mex_X1_covers_1 l hlx b sl pv V _ (mg S) hS a1 a2 ra1 ra2 c1)) (fun H2 hM => fx_ok (met_X3_covers_1 l o S hM a1 a2 ra1 ra2 c1))
set_option maxHeartbeats 1000000 in
theorem stp_cornerCount {w : pb_W} (l : Launch) (hlx : l.stackTraces = false) {H : Heap} {b sl o oL oD : Nat} {S : mS} (hI : LWI w H b sl o oL oD S) (a1 : Int) (ra1 : -2147483648 ≤ a1 ∧ a1 ≤ 2147483647) (a2 : Int) (ra2 : -2147483648 ≤ a2 ∧ a2 ≤ 2147483647) : StepI w l yX0_cornerCount cX0_cornerCount 5 [(0, 10, 13, 13), (0, 10, 17, 64)] yX3_cornerCount cX3_cornerCount 3 .int  [.ref b, .int (iZ (a1)), .int (iZ (a2)), .ref oL] [.ref o, .int (iZ (a1)), .int (iZ (a2))] H b sl o oL oD := by
  obtain ⟨M, e, V, G, pv, hP⟩ := id hI
  have hP := hP.g
  obtain ⟨h1, h2, h3, h4, h5, ⟨g6, h6⟩, ⟨g7, h7⟩, h8, h9, -⟩ := id hP
  have hS := h3.sq
  have hBo := h3.1.r
  by_cases c1 : 0 ≤ a1 ∧ a1 ≤ 7
  · obtain ⟨s, rfl, hs⟩ := sh_nat c1
    have hgs : gok (mg S s) := mg_ok h2 hs
    by_cases c2 : 0 ≤ a2 ∧ a2 < (((outs (mg S s) 2500).length : Nat) : Int)
    · obtain ⟨q, rfl⟩ := Int.eq_ofNat_of_zero_le c2.1
      obtain ⟨d, hq⟩ : ∃ d, (outs (mg S s) 2500)[q]? = some d := ⟨_, List.getElem?_eq_getElem (by omega)⟩
      have hlim := crn_lim hgs (outs_lok 2500 d (List.mem_of_getElem? hq))
      exact StepI_r hP (P1 := fun z => z = (((crn (mg S s) d).length : Nat) : Int)) (P3 := fun z => z = (((crn (mg S s) d).length : Nat) : Int)) (by decide +kernel) (by decide +kernel) (by decide) (fun z z' e1 e3 => ⟨e1.trans e3.symm, (by have h9 := e1; have hb9 := hlim.1; omega), fun h => by cases h⟩) (met_X0_cornerCount l b oL _ hBo _ _ _ _ _ (fun z H1 => z = (((crn (mg S s) d).length : Nat) : Int) ∧ pb_F (fun q => q < H.size) H H1) g6 (by decide) (met_X1_cornerCount l b sl pv V _ (mg S) hS s hs q d hq) (fun z H1 hz => ⟨(hP.k1 hz.2).1, (hP.k1 hz.2).2, by have h9 := hz.1; have hb9 := hlim.1; omega⟩) h6 h8) (fun H2 hM => rdT_ok (met_X3_cornerCount l o S hM s hs h2 q d hq))
    · exact StepI_x hI (by decide +kernel) (by decide +kernel) (by decide) (by decide) (mex_X0_cornerCount_2 l b oL _ hBo _ _ _ _ _ (by decide) (mex_X1_cornerCount_2 l hlx b sl pv V _ (mg S) hS s hs a2 ra2 c2)) (fun H2 hM => fxT_ok (met_X3_cornerCount_2 l o S hM s hs h2 a2 ra2 c2))
  · exact StepI_x hI (by decide +kernel) (by decide +kernel) (by decide) (by decide) (mex_X0_cornerCount_1 l b oL _ hBo _ _ _ _ _ (by decide) (mex_X1_cornerCount_1 l hlx b _ hBo a1 ra1 c1 a2)) (fun H2 hM => fx_ok (met_X3_cornerCount_1 l o S hM a1 ra1 c1 a2 ra2))
set_option maxHeartbeats 1000000 in
theorem stp_signedArea {w : pb_W} (l : Launch) (hlx : l.stackTraces = false) {H : Heap} {b sl o oL oD : Nat} {S : mS} (hI : LWI w H b sl o oL oD S) (a1 : Int) (ra1 : -2147483648 ≤ a1 ∧ a1 ≤ 2147483647) (a2 : Int) (ra2 : -2147483648 ≤ a2 ∧ a2 ≤ 2147483647) : StepI w l yX0_signedArea cX0_signedArea 5 [(0, 10, 13, 13), (0, 10, 17, 64)] yX3_signedArea cX3_signedArea 3 .int  [.ref b, .int (iZ (a1)), .int (iZ (a2)), .ref oL] [.ref o, .int (iZ (a1)), .int (iZ (a2))] H b sl o oL oD := by
  obtain ⟨M, e, V, G, pv, hP⟩ := id hI
  have hP := hP.g
  obtain ⟨h1, h2, h3, h4, h5, ⟨g6, h6⟩, ⟨g7, h7⟩, h8, h9, -⟩ := id hP
  have hS := h3.sq
  have hBo := h3.1.r
  by_cases c1 : 0 ≤ a1 ∧ a1 ≤ 7
  · obtain ⟨s, rfl, hs⟩ := sh_nat c1
    have hgs : gok (mg S s) := mg_ok h2 hs
    by_cases c2 : 0 ≤ a2 ∧ a2 < (((outs (mg S s) 2500).length : Nat) : Int)
    · obtain ⟨q, rfl⟩ := Int.eq_ofNat_of_zero_le c2.1
      obtain ⟨d, hq⟩ : ∃ d, (outs (mg S s) 2500)[q]? = some d := ⟨_, List.getElem?_eq_getElem (by omega)⟩
      have hlim := crn_lim hgs (outs_lok 2500 d (List.mem_of_getElem? hq))
      exact StepI_r hP (P1 := fun z => z = arA (mg S s) d) (P3 := fun z => z = arA (mg S s) d) (by decide +kernel) (by decide +kernel) (by decide) (fun z z' e1 e3 => ⟨e1.trans e3.symm, (by have h9 := e1; have hb9 := hlim.2; omega), fun h => by cases h⟩) (met_X0_signedArea l b oL _ hBo _ _ _ _ _ (fun z H1 => z = arA (mg S s) d ∧ pb_F (fun q => q < H.size) H H1) g6 (by decide) (met_X1_signedArea l b sl pv V _ (mg S) hS s hs q d hq) (fun z H1 hz => ⟨(hP.k1 hz.2).1, (hP.k1 hz.2).2, by have h9 := hz.1; have hb9 := hlim.2; omega⟩) h6 h8) (fun H2 hM => rdT_ok (met_X3_signedArea l o S hM s hs h2 q d hq))
    · exact StepI_x hI (by decide +kernel) (by decide +kernel) (by decide) (by decide) (mex_X0_signedArea_2 l b oL _ hBo _ _ _ _ _ (by decide) (mex_X1_signedArea_2 l hlx b sl pv V _ (mg S) hS s hs a2 ra2 c2)) (fun H2 hM => fxT_ok (met_X3_signedArea_2 l o S hM s hs h2 a2 ra2 c2))
  · exact StepI_x hI (by decide +kernel) (by decide +kernel) (by decide) (by decide) (mex_X0_signedArea_1 l b oL _ hBo _ _ _ _ _ (by decide) (mex_X1_signedArea_1 l hlx b _ hBo a1 ra1 c1 a2)) (fun H2 hM => fx_ok (met_X3_signedArea_1 l o S hM a1 ra1 c1 a2 ra2))
set_option maxHeartbeats 1000000 in
theorem stp_cornerX {w : pb_W} (l : Launch) (hlx : l.stackTraces = false) {H : Heap} {b sl o oL oD : Nat} {S : mS} (hI : LWI w H b sl o oL oD S) (a1 : Int) (ra1 : -2147483648 ≤ a1 ∧ a1 ≤ 2147483647) (a2 : Int) (ra2 : -2147483648 ≤ a2 ∧ a2 ≤ 2147483647) (a3 : Int) (ra3 : -2147483648 ≤ a3 ∧ a3 ≤ 2147483647) : StepI w l yX0_cornerX cX0_cornerX 6 [(0, 12, 15, 13), (0, 12, 19, 64)] yX3_cornerX cX3_cornerX 4 .int  [.ref b, .int (iZ (a1)), .int (iZ (a2)), .int (iZ (a3)), .ref oL] [.ref o, .int (iZ (a1)), .int (iZ (a2)), .int (iZ (a3))] H b sl o oL oD := by
  obtain ⟨M, e, V, G, pv, hP⟩ := id hI
  have hP := hP.g
  obtain ⟨h1, h2, h3, h4, h5, ⟨g6, h6⟩, ⟨g7, h7⟩, h8, h9, -⟩ := id hP
  have hS := h3.sq
  have hBo := h3.1.r
  by_cases c1 : 0 ≤ a1 ∧ a1 ≤ 7
  · obtain ⟨s, rfl, hs⟩ := sh_nat c1
    have hgs : gok (mg S s) := mg_ok h2 hs
    by_cases c2 : 0 ≤ a2 ∧ a2 < (((outs (mg S s) 2500).length : Nat) : Int)
    · obtain ⟨q, rfl⟩ := Int.eq_ofNat_of_zero_le c2.1
      obtain ⟨d, hq⟩ : ∃ d, (outs (mg S s) 2500)[q]? = some d := ⟨_, List.getElem?_eq_getElem (by omega)⟩
      have hlim := crn_lim hgs (outs_lok 2500 d (List.mem_of_getElem? hq))
      by_cases c3 : 0 ≤ a3 ∧ a3 < (((crn (mg S s) d).length : Nat) : Int)
      · obtain ⟨c, rfl⟩ := Int.eq_ofNat_of_zero_le c3.1
        obtain ⟨f, hc⟩ : ∃ f, (crn (mg S s) d)[c]? = some f := ⟨_, List.getElem?_eq_getElem (by omega)⟩
        have h24 := crn_24 hgs hq hc
        exact StepI_r hP (P1 := fun z => z = ((f.1 : Nat) : Int)) (P3 := fun z => z = ((f.1 : Nat) : Int)) (by decide +kernel) (by decide +kernel) (by decide) (fun z z' e1 e3 => ⟨e1.trans e3.symm, (by have h9 := e1; have hb9 := h24.1; omega), fun h => by cases h⟩) (met_X0_cornerX l b oL _ hBo _ _ _ _ _ _ (fun z H1 => z = ((f.1 : Nat) : Int) ∧ pb_F (fun q => q < H.size) H H1) g6 (by decide) (met_X1_cornerX l b sl pv V _ (mg S) hS s hs q d hq c f hc) (fun z H1 hz => ⟨(hP.k1 hz.2).1, (hP.k1 hz.2).2, by have h9 := hz.1; have hb9 := h24.1; omega⟩) h6 h8) (fun H2 hM => rdT_ok (met_X3_cornerX l o S hM s hs h2 q d hq c f hc))
      · exact StepI_x hI (by decide +kernel) (by decide +kernel) (by decide) (by decide) (mex_X0_cornerX_2 l b oL _ hBo _ _ _ _ _ _ (by decide) (mex_X1_cornerX_3 l hlx b sl pv V _ (mg S) hS s hs q d hq a3 ra3 c3)) (fun H2 hM => fxT_ok (met_X3_cornerX_3 l o S hM s hs h2 q d hq a3 ra3 c3))
    · exact StepI_x hI (by decide +kernel) (by decide +kernel) (by decide) (by decide) (mex_X0_cornerX_2 l b oL _ hBo _ _ _ _ _ _ (by decide) (mex_X1_cornerX_2 l hlx b sl pv V _ (mg S) hS s hs a2 ra2 c2 a3)) (fun H2 hM => fxT_ok (met_X3_cornerX_2 l o S hM s hs h2 a2 ra2 c2 a3 ra3))
  · exact StepI_x hI (by decide +kernel) (by decide +kernel) (by decide) (by decide) (mex_X0_cornerX_1 l b oL _ hBo _ _ _ _ _ _ (by decide) (mex_X1_cornerX_1 l hlx b _ hBo a1 ra1 c1 a2 a3)) (fun H2 hM => fx_ok (met_X3_cornerX_1 l o S hM a1 ra1 c1 a2 ra2 a3 ra3))
set_option maxHeartbeats 1000000 in
theorem stp_cornerY {w : pb_W} (l : Launch) (hlx : l.stackTraces = false) {H : Heap} {b sl o oL oD : Nat} {S : mS} (hI : LWI w H b sl o oL oD S) (a1 : Int) (ra1 : -2147483648 ≤ a1 ∧ a1 ≤ 2147483647) (a2 : Int) (ra2 : -2147483648 ≤ a2 ∧ a2 ≤ 2147483647) (a3 : Int) (ra3 : -2147483648 ≤ a3 ∧ a3 ≤ 2147483647) : StepI w l yX0_cornerY cX0_cornerY 6 [(0, 12, 15, 13), (0, 12, 19, 64)] yX3_cornerY cX3_cornerY 4 .int  [.ref b, .int (iZ (a1)), .int (iZ (a2)), .int (iZ (a3)), .ref oL] [.ref o, .int (iZ (a1)), .int (iZ (a2)), .int (iZ (a3))] H b sl o oL oD := by
  obtain ⟨M, e, V, G, pv, hP⟩ := id hI
  have hP := hP.g
  obtain ⟨h1, h2, h3, h4, h5, ⟨g6, h6⟩, ⟨g7, h7⟩, h8, h9, -⟩ := id hP
  have hS := h3.sq
  have hBo := h3.1.r
  by_cases c1 : 0 ≤ a1 ∧ a1 ≤ 7
  · obtain ⟨s, rfl, hs⟩ := sh_nat c1
    have hgs : gok (mg S s) := mg_ok h2 hs
    by_cases c2 : 0 ≤ a2 ∧ a2 < (((outs (mg S s) 2500).length : Nat) : Int)
    · obtain ⟨q, rfl⟩ := Int.eq_ofNat_of_zero_le c2.1
      obtain ⟨d, hq⟩ : ∃ d, (outs (mg S s) 2500)[q]? = some d := ⟨_, List.getElem?_eq_getElem (by omega)⟩
      have hlim := crn_lim hgs (outs_lok 2500 d (List.mem_of_getElem? hq))
      by_cases c3 : 0 ≤ a3 ∧ a3 < (((crn (mg S s) d).length : Nat) : Int)
      · obtain ⟨c, rfl⟩ := Int.eq_ofNat_of_zero_le c3.1
        obtain ⟨f, hc⟩ : ∃ f, (crn (mg S s) d)[c]? = some f := ⟨_, List.getElem?_eq_getElem (by omega)⟩
        have h24 := crn_24 hgs hq hc
        exact StepI_r hP (P1 := fun z => z = ((f.2.1 : Nat) : Int)) (P3 := fun z => z = ((f.2.1 : Nat) : Int)) (by decide +kernel) (by decide +kernel) (by decide) (fun z z' e1 e3 => ⟨e1.trans e3.symm, (by have h9 := e1; have hb9 := h24.2; omega), fun h => by cases h⟩) (met_X0_cornerY l b oL _ hBo _ _ _ _ _ _ (fun z H1 => z = ((f.2.1 : Nat) : Int) ∧ pb_F (fun q => q < H.size) H H1) g6 (by decide) (met_X1_cornerY l b sl pv V _ (mg S) hS s hs q d hq c f hc) (fun z H1 hz => ⟨(hP.k1 hz.2).1, (hP.k1 hz.2).2, by have h9 := hz.1; have hb9 := h24.2; omega⟩) h6 h8) (fun H2 hM => rdT_ok (met_X3_cornerY l o S hM s hs h2 q d hq c f hc))
      · exact StepI_x hI (by decide +kernel) (by decide +kernel) (by decide) (by decide) (mex_X0_cornerY_2 l b oL _ hBo _ _ _ _ _ _ (by decide) (mex_X1_cornerY_3 l hlx b sl pv V _ (mg S) hS s hs q d hq a3 ra3 c3)) (fun H2 hM => fxT_ok (met_X3_cornerY_3 l o S hM s hs h2 q d hq a3 ra3 c3))
    · exact StepI_x hI (by decide +kernel) (by decide +kernel) (by decide) (by decide) (mex_X0_cornerY_2 l b oL _ hBo _ _ _ _ _ _ (by decide) (mex_X1_cornerY_2 l hlx b sl pv V _ (mg S) hS s hs a2 ra2 c2 a3)) (fun H2 hM => fxT_ok (met_X3_cornerY_2 l o S hM s hs h2 a2 ra2 c2 a3 ra3))
  · exact StepI_x hI (by decide +kernel) (by decide +kernel) (by decide) (by decide) (mex_X0_cornerY_1 l b oL _ hBo _ _ _ _ _ _ (by decide) (mex_X1_cornerY_1 l hlx b _ hBo a1 ra1 c1 a2 a3)) (fun H2 hM => fx_ok (met_X3_cornerY_1 l o S hM a1 ra1 c1 a2 ra2 a3 ra3))
