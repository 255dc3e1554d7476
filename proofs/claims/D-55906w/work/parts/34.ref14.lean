/-! ErrataPressModel: readers of houses, sheets, places -/
section RV
variable {g : ZG} {m : Nat} {R K : Nat → Nat → Int32} {M : ZM} {s w h k x y c b : Int32} {n S r : Nat} {q f : Nat → Int32}
def vHouseOf (q : Nat → Int32) (h w : Int32) : Int32 := if w = 0 ∨ w = 1 then fBy q h w else if w = 2 then fShOf q h else if w = 3 then fOfH q h 1 else if w = 4 then fOfH q h 2 else if w = 5 then fPrice q h else fBy q h 2
def oHouseOf (R : Nat → Nat → Int32) (h w : Int32) : (Nat → Nat → Int32) × Int32 :=
  if fIsH (R 0) h = 0 then (rFail R 1, 0) else if ¬ (0 ≤ w ∧ w ≤ 6) then (rFail R 2, 0) else (rFail R 0, vHouseOf (R 0) h w)
theorem c6_houseOf (hV : zV g) (H : Inv (R 0) n S r) : tX6_houseOf g [.ref m, .int h, .int w] (rput g m R M) nX6_houseOf 0 0 (zQo g m M (oHouseOf R h w)) := by
  refine eX6_houseOf hV ?_
  have hG := H.gse
  by_cases hp : fIsH (R 0) h = 0
  · repeat' (first
      | exact absurd hp c_6
      | exact absurd c_31 (by decide)
      | refine sX6_houseOf_0 ?_
      | refine sX6_houseOf_6 (fun c_6 => ?_) (fun c_6 => ?_)
      | refine sX6_houseOf_9 ?_
      | refine sX6_houseOf_13 ?_
      | refine sX6_houseOf_20 (fun c_20 => ?_) (fun c_20 => ?_)
      | refine sX6_houseOf_23 ?_
      | refine sX6_houseOf_27 ?_
      | refine sX6_houseOf_31 (fun c_31 => ?_) (fun c_31 => ?_)
      | refine sX6_houseOf_34 ?_
      | refine sX6_houseOf_76 ?_
      | refine sX6_houseOf_82 ?_
      | refine sX6_houseOf_83 ?_
      | refine sX6_houseOf_88 ?_
      | refine sX6_houseOf_89 ?_
      | refine sX6_houseOf_95 ?_
      | refine sX6_houseOf_96 ?_
      | refine sX6_houseOf_102 ?_
      | refine sX6_houseOf_103 ?_
      | refine sX6_houseOf_108 ?_
      | refine sX6_houseOf_109 ?_
      | refine sX6_houseOf_115 ?_
      | refine iX6_houseOf_3 (c6_isHouse hV) rp_is (zpr ?_)
      | refine iX6_houseOf_17 (c6_in hV) (zpr ?_)
      | refine iX6_houseOf_28 (c6_fails hV) rp_is (zpr ?_)
      | refine iX6_houseOf_79 (c6_by hV ?_) rp_is (zpr ?_)
      | refine iX6_houseOf_85 (c6_sheetsOf hV ?_) rp_is (zpr ?_)
      | refine iX6_houseOf_92 (c6_ofHouse hV ?_) rp_is (zpr ?_)
      | refine iX6_houseOf_99 (c6_ofHouse hV ?_) rp_is (zpr ?_)
      | refine iX6_houseOf_105 (c6_price hV ?_) rp_is (zpr ?_)
      | refine iX6_houseOf_112 (c6_by hV ?_) rp_is (zpr ?_)
      | refine wX6_houseOf_37 (fun c_37_76 => ?_) (fun c_37_83 => ?_) (fun c_37_89 => ?_) (fun c_37_96 => ?_) (fun c_37_103 => ?_) (fun c_37_109 => ?_)
      | with_reducible exact zqi rfl
      | simp only [rs_4, rs_5, rs_6, rs_7, rs_8, rs_9, rs_10, rs_11, rs_12, rs_14, rs_15, rs_17, rs_18, rs_20, rf_r, ra_0, ra_1, ra_2, ra_3, ra_4, ra_5, ra_6, rFail_0]
      | fail)
    all_goals exact zqo (by unfold oHouseOf; rw [if_pos hp])
  · obtain ⟨i, hi, rfl⟩ := H.isH.mp (fIs01H.resolve_left hp)
    have hO := H.hok hi
    have w2 := hO.a2
    repeat' (first
      | exact absurd c_6 hp
      | exact absurd c_31 (by decide)
      | with_reducible exact hG
      | with_reducible exact w2
      | refine sX6_houseOf_0 ?_
      | refine sX6_houseOf_6 (fun c_6 => ?_) (fun c_6 => ?_)
      | refine sX6_houseOf_9 ?_
      | refine sX6_houseOf_13 ?_
      | refine sX6_houseOf_20 (fun c_20 => ?_) (fun c_20 => ?_)
      | refine sX6_houseOf_23 ?_
      | refine sX6_houseOf_27 ?_
      | refine sX6_houseOf_31 (fun c_31 => ?_) (fun c_31 => ?_)
      | refine sX6_houseOf_34 ?_
      | refine sX6_houseOf_36 ?_
      | refine sX6_houseOf_76 ?_
      | refine sX6_houseOf_82 ?_
      | refine sX6_houseOf_83 ?_
      | refine sX6_houseOf_88 ?_
      | refine sX6_houseOf_89 ?_
      | refine sX6_houseOf_95 ?_
      | refine sX6_houseOf_96 ?_
      | refine sX6_houseOf_102 ?_
      | refine sX6_houseOf_103 ?_
      | refine sX6_houseOf_108 ?_
      | refine sX6_houseOf_109 ?_
      | refine sX6_houseOf_115 ?_
      | refine iX6_houseOf_3 (c6_isHouse hV) rp_is (zpr ?_)
      | refine iX6_houseOf_17 (c6_in hV) (zpr ?_)
      | refine iX6_houseOf_28 (c6_fails hV) rp_is (zpr ?_)
      | refine iX6_houseOf_85 (c6_sheetsOf hV ?_) rp_is (zpr ?_)
      | refine iX6_houseOf_92 (c6_ofHouse hV ?_) rp_is (zpr ?_)
      | refine iX6_houseOf_99 (c6_ofHouse hV ?_) rp_is (zpr ?_)
      | refine iX6_houseOf_105 (c6_price hV ?_) rp_is (zpr ?_)
      | refine iX6_houseOf_112 (c6_by hV ?_) rp_is (zpr ?_)
      | refine wX6_houseOf_37 (fun c_37_76 => ?_) (fun c_37_83 => ?_) (fun c_37_89 => ?_) (fun c_37_96 => ?_) (fun c_37_103 => ?_) (fun c_37_109 => ?_)
      | with_reducible exact zqi rfl
      | simp only [rs_4, rs_5, rs_6, rs_7, rs_8, rs_9, rs_10, rs_11, rs_12, rs_14, rs_15, rs_17, rs_18, rs_20, rf_r, ra_0, ra_1, ra_2, ra_3, ra_4, ra_5, ra_6, rFail_0]
      | fail)
    all_goals try simp only [rFail_0] at *
    · exact zqo (by unfold oHouseOf; rw [if_neg hp, if_pos (bI_no c_20)])
    · have e : fBy (R 0) (nI i) w = vHouseOf (R 0) (nI i) w := by unfold vHouseOf; rw [if_pos c_37_76]
      refine iX6_houseOf_79 (c6_by hV (by rcases c_37_76 with rfl | rfl; exact hO.a0; exact hO.a1)) rp_is (zpr (sX6_houseOf_82 (zqo ?_)))
      unfold oHouseOf
      rw [if_neg hp, if_neg (fun h => h (bI_yes c_20)), ← e]; rfl
    all_goals (refine zqo ?_; unfold oHouseOf; rw [if_neg hp, if_neg (fun h => h (bI_yes c_20))])
    · subst c_37_83; rfl
    · subst c_37_89; rfl
    · subst c_37_96; rfl
    · subst c_37_103; rfl
    · obtain ⟨h0, h1, h2, h3, h4, h5⟩ := c_37_109
      unfold vHouseOf
      rw [if_neg (fun h => h.elim h0 h1), if_neg h2, if_neg h3, if_neg h4, if_neg h5]
def vSheetOf (q : Nat → Int32) (s w : Int32) : Int32 := if 2 ≤ w then (if w = 5 then fBadOf q s else fMis q s (w - 1)) else fOf q s w
def oSheetOf (R : Nat → Nat → Int32) (s w : Int32) : (Nat → Nat → Int32) × Int32 :=
  if fIsS (R 0) s = 0 then (rFail R 1, 0) else if ¬ (0 ≤ w ∧ w ≤ 5) then (rFail R 2, 0) else (rFail R 0, vSheetOf (R 0) s w)
theorem c6_sheetOf (hV : zV g) (H : Inv (R 0) n S r) : tX6_sheetOf g [.ref m, .int s, .int w] (rput g m R M) nX6_sheetOf 0 0 (zQo g m M (oSheetOf R s w)) := by
  refine eX6_sheetOf hV ?_
  by_cases hp : fIsS (R 0) s = 0
  · repeat' (first
      | exact absurd hp c_6
      | exact absurd c_30 (by decide)
      | refine sX6_sheetOf_0 ?_
      | refine sX6_sheetOf_6 (fun c_6 => ?_) (fun c_6 => ?_)
      | refine sX6_sheetOf_9 ?_
      | refine sX6_sheetOf_13 ?_
      | refine sX6_sheetOf_19 (fun c_19 => ?_) (fun c_19 => ?_)
      | refine sX6_sheetOf_22 ?_
      | refine sX6_sheetOf_26 ?_
      | refine sX6_sheetOf_30 (fun c_30 => ?_) (fun c_30 => ?_)
      | refine sX6_sheetOf_33 ?_
      | refine sX6_sheetOf_40 ?_
      | refine sX6_sheetOf_46 ?_
      | refine sX6_sheetOf_49 (fun c_49 => ?_) (fun c_49 => ?_)
      | refine sX6_sheetOf_54 ?_
      | refine sX6_sheetOf_59 ?_
      | refine sX6_sheetOf_62 ?_
      | refine sX6_sheetOf_70 ?_
      | refine iX6_sheetOf_3 (c6_isSheet hV) rp_is (zpr ?_)
      | refine iX6_sheetOf_16 (c6_in hV) (zpr ?_)
      | refine iX6_sheetOf_27 (c6_fails hV) rp_is (zpr ?_)
      | refine iX6_sheetOf_43 (c6_of hV ?_) rp_is (zpr ?_)
      | refine iX6_sheetOf_56 (c6_badOf hV ?_) rp_is (zpr ?_)
      | refine iX6_sheetOf_67 (c6_misprints hV ?_) rp_is (zpr ?_)
      | with_reducible exact zqi rfl
      | simp only [rs_4, rs_5, rs_6, rs_7, rs_8, rs_9, rs_10, rs_11, rs_12, rs_14, rs_15, rs_17, rs_18, rs_20, rf_r, ra_0, ra_1, ra_2, ra_3, ra_4, ra_5, ra_6, rFail_0]
      | fail)
    all_goals exact zqo (by unfold oSheetOf; rw [if_pos hp])
  · obtain ⟨i, hi, rfl⟩ := H.isS.mp (fIs01S.resolve_left hp)
    have hO := H.sok hi
    repeat' (first
      | exact absurd c_6 hp
      | exact absurd c_30 (by decide)
      | with_reducible exact hO
      | refine sX6_sheetOf_0 ?_
      | refine sX6_sheetOf_6 (fun c_6 => ?_) (fun c_6 => ?_)
      | refine sX6_sheetOf_9 ?_
      | refine sX6_sheetOf_13 ?_
      | refine sX6_sheetOf_19 (fun c_19 => ?_) (fun c_19 => ?_)
      | refine sX6_sheetOf_22 ?_
      | refine sX6_sheetOf_26 ?_
      | refine sX6_sheetOf_30 (fun c_30 => ?_) (fun c_30 => ?_)
      | refine sX6_sheetOf_33 ?_
      | refine sX6_sheetOf_35 (fun c_35 => ?_) (fun c_35 => ?_)
      | refine sX6_sheetOf_40 ?_
      | refine sX6_sheetOf_46 ?_
      | refine sX6_sheetOf_49 (fun c_49 => ?_) (fun c_49 => ?_)
      | refine sX6_sheetOf_54 ?_
      | refine sX6_sheetOf_59 ?_
      | refine sX6_sheetOf_62 ?_
      | refine sX6_sheetOf_70 ?_
      | refine iX6_sheetOf_3 (c6_isSheet hV) rp_is (zpr ?_)
      | refine iX6_sheetOf_16 (c6_in hV) (zpr ?_)
      | refine iX6_sheetOf_27 (c6_fails hV) rp_is (zpr ?_)
      | refine iX6_sheetOf_56 (c6_badOf hV ?_) rp_is (zpr ?_)
      | refine iX6_sheetOf_67 (c6_misprints hV ?_) rp_is (zpr ?_)
      | with_reducible exact zqi rfl
      | simp only [rs_4, rs_5, rs_6, rs_7, rs_8, rs_9, rs_10, rs_11, rs_12, rs_14, rs_15, rs_17, rs_18, rs_20, rf_r, ra_0, ra_1, ra_2, ra_3, ra_4, ra_5, ra_6, rFail_0]
      | fail)
    all_goals try simp only [rFail_0] at *
    · exact zqo (by unfold oSheetOf; rw [if_neg hp, if_pos (bI_no c_19)])
    · exact zqo (by unfold oSheetOf vSheetOf; rw [if_neg hp, if_neg (fun h => h (bI_yes c_19)), if_pos c_35, if_neg c_49])
    · exact zqo (by unfold oSheetOf vSheetOf; rw [if_neg hp, if_neg (fun h => h (bI_yes c_19)), if_pos c_35, if_pos c_49])
    · have hw := (bI_yes c_19).1
      have hw2 : w = 0 ∨ w = 1 := by
        have h1 : (0 : Int) ≤ w.toInt := Int32.le_iff_toInt_le.mp hw
        have h2 : ¬ (2 : Int) ≤ w.toInt := fun h => c_35 (Int32.le_iff_toInt_le.mpr h)
        have : w.toInt = 0 ∨ w.toInt = 1 := by omega
        rcases this with h | h
        · exact Or.inl (Int32.toInt_inj.mp (h.trans (by decide)))
        · exact Or.inr (Int32.toInt_inj.mp (h.trans (by decide)))
      have v : vp_in (22 + 26 * nI i + w) 240 := by rcases hw2 with rfl | rfl; exact hO.a0; exact hO.a1
      refine iX6_sheetOf_43 (c6_of hV v) rp_is (zpr (sX6_sheetOf_46 (sX6_sheetOf_70 (zqo ?_))))
      unfold oSheetOf vSheetOf
      rw [if_neg hp, if_neg (fun h => h (bI_yes c_19)), if_neg c_35]; rfl
theorem c6_isNowhere (hV : zV g) (H : Inv (R 0) n S r) : tX6_isNowhere g [.ref m, .int s, .int k] (rput g m R M) nX6_isNowhere 0 0 (zQp (rput g m (rFail R (if fIsP (R 0) s k = 0 then 1 else 0)) M) (.int (if fIsP (R 0) s k = 0 then 1 else 0))) := by
  refine eX6_isNowhere hV ?_
  repeat' (first
    | with_reducible exact H.isSv
    | exact Or.inl rfl
    | exact Or.inr rfl
    | refine sX6_isNowhere_0 ?_
    | refine sX6_isNowhere_7 (fun c_7 => ?_) (fun c_7 => ?_)
    | refine sX6_isNowhere_10 ?_
    | refine sX6_isNowhere_14 ?_
    | refine sX6_isNowhere_18 (by first | exact Or.inl rfl | exact Or.inr rfl | exact bI_01 _ | assumption) ?_
    | refine iX6_isNowhere_4 (c6_isPlace hV ?_) rp_is (zpr ?_)
    | refine iX6_isNowhere_15 (c6_fails hV) rp_is (zpr ?_)
    | with_reducible exact zqi rfl
    | simp only [rs_4, rs_5, rs_6, rs_7, rs_8, rs_9, rs_10, rs_11, rs_12, rs_14, rs_15, rs_17, rs_18, rs_20, rf_r, ra_0, ra_1, ra_2, ra_3, ra_4, ra_5, ra_6, rFail_0]
    | fail)
  · rw [if_pos c_7]; exact zqi rfl
  · rw [if_neg c_7]; exact zqi rfl
theorem rFail_1 {p : Int32} : (rFail R p) 0 = R 0 := rfl
def oNow (R : Nat → Nat → Int32) (s k v v0 : Int32) : (Nat → Nat → Int32) × Int32 := if fIsP (R 0) s k = 0 then (rFail R 1, v0) else (rFail R 0, v)
theorem c6_markAt (hV : zV g) (H : Inv (R 0) n S r) : tX6_markAt g [.ref m, .int s, .int k] (rput g m R M) nX6_markAt 0 0 (zQo g m M (oNow R s k (fOf (R 0) s (18 + k)) 0)) := by
  refine eX6_markAt hV ?_
  by_cases hp : fIsP (R 0) s k = 0
  · have e : oNow R s k (fOf (R 0) s (18 + k)) 0 = (rFail R 1, 0) := if_pos hp
    repeat' (first
      | rw [if_pos hp] at *
      | exact absurd c_6 (by decide)
      | refine sX6_markAt_0 ?_
      | refine sX6_markAt_6 (fun c_6 => ?_) (fun c_6 => ?_)
      | refine sX6_markAt_9 ?_
      | refine sX6_markAt_13 ?_
      | refine sX6_markAt_19 ?_
      | refine iX6_markAt_3 (c6_isNowhere hV H) rp_is (zpr ?_)
      | refine iX6_markAt_16 (c6_mark hV ?_) rp_is (zpr ?_)
      | with_reducible exact zqi rfl
      | simp only [rs_4, rs_5, rs_6, rs_7, rs_8, rs_9, rs_10, rs_11, rs_12, rs_14, rs_15, rs_17, rs_18, rs_20, rf_r, ra_0, ra_1, ra_2, ra_3, ra_4, ra_5, ra_6, rFail_0]
      | fail)
    all_goals exact zqo e
  · have e : oNow R s k (fOf (R 0) s (18 + k)) 0 = (rFail R 0, fOf (R 0) s (18 + k)) := if_neg hp
    obtain ⟨i, j, hi, hj, rfl, rfl⟩ := H.isP.mp (fIs01P.resolve_left hp)
    have hz := (H.gzz hi).2.2.1
    have hsO := H.sok hi
    have hkO : KOk (nI j) := KOk.n hj hz
    have v18 := hkO.k18 hsO
    repeat' (first
      | rw [if_neg hp] at *
      | exact absurd rfl c_6
      | with_reducible exact v18
      | refine sX6_markAt_0 ?_
      | refine sX6_markAt_6 (fun c_6 => ?_) (fun c_6 => ?_)
      | refine sX6_markAt_9 ?_
      | refine sX6_markAt_13 ?_
      | refine sX6_markAt_19 ?_
      | refine iX6_markAt_3 (c6_isNowhere hV H) rp_is (zpr ?_)
      | refine iX6_markAt_16 (c6_mark hV ?_) rp_is (zpr ?_)
      | with_reducible exact zqi rfl
      | simp only [rs_4, rs_5, rs_6, rs_7, rs_8, rs_9, rs_10, rs_11, rs_12, rs_14, rs_15, rs_17, rs_18, rs_20, rf_r, ra_0, ra_1, ra_2, ra_3, ra_4, ra_5, ra_6, rFail_0]
      | fail)
    all_goals exact zqo e
theorem c6_fine (hV : zV g) (H : Inv (R 0) n S r) : tX6_fine g [.ref m, .int s, .int k, .int b] (rput g m R M) nX6_fine 0 0 (zQo g m M (oNow R s k (fFine (R 0) s k) 0)) := by
  refine eX6_fine hV ?_
  by_cases hp : fIsP (R 0) s k = 0
  · have e : oNow R s k (fFine (R 0) s k) 0 = (rFail R 1, 0) := if_pos hp
    repeat' (first
      | rw [if_pos hp] at *
      | exact absurd c_6 (by decide)
      | refine sX6_fine_0 ?_
      | refine sX6_fine_6 (fun c_6 => ?_) (fun c_6 => ?_)
      | refine sX6_fine_9 ?_
      | refine sX6_fine_13 ?_
      | refine sX6_fine_19 ?_
      | refine iX6_fine_3 (c6_isNowhere hV H) rp_is (zpr ?_)
      | refine iX6_fine_16 (c6_fineAt hV ?_ ?_) rp_is (zpr ?_)
      | with_reducible exact zqi rfl
      | simp only [rs_4, rs_5, rs_6, rs_7, rs_8, rs_9, rs_10, rs_11, rs_12, rs_14, rs_15, rs_17, rs_18, rs_20, rf_r, ra_0, ra_1, ra_2, ra_3, ra_4, ra_5, ra_6, rFail_0]
      | fail)
    all_goals exact zqo e
  · have e : oNow R s k (fFine (R 0) s k) 0 = (rFail R 0, fFine (R 0) s k) := if_neg hp
    obtain ⟨i, j, hi, hj, rfl, rfl⟩ := H.isP.mp (fIs01P.resolve_left hp)
    have hz := (H.gzz hi).2.2.1
    have hsO := H.sok hi
    have hkO : KOk (nI j) := KOk.n hj hz
    repeat' (first
      | rw [if_neg hp] at *
      | exact absurd rfl c_6
      | with_reducible exact hsO
      | with_reducible exact hkO
      | refine sX6_fine_0 ?_
      | refine sX6_fine_6 (fun c_6 => ?_) (fun c_6 => ?_)
      | refine sX6_fine_9 ?_
      | refine sX6_fine_13 ?_
      | refine sX6_fine_19 ?_
      | refine iX6_fine_3 (c6_isNowhere hV H) rp_is (zpr ?_)
      | refine iX6_fine_16 (c6_fineAt hV ?_ ?_) rp_is (zpr ?_)
      | with_reducible exact zqi rfl
      | simp only [rs_4, rs_5, rs_6, rs_7, rs_8, rs_9, rs_10, rs_11, rs_12, rs_14, rs_15, rs_17, rs_18, rs_20, rf_r, ra_0, ra_1, ra_2, ra_3, ra_4, ra_5, ra_6, rFail_0]
      | fail)
    all_goals exact zqo e
theorem c6_laughing (hV : zV g) (H : Inv (R 0) n S r) : tX6_laughing g [.ref m, .int s, .int k] (rput g m R M) nX6_laughing 0 0 (zQo g m M (oNow R s k (fLs (R 0) s k) 0)) := by
  refine eX6_laughing hV ?_
  have hR := H.gr
  by_cases hp : fIsP (R 0) s k = 0
  · have e : oNow R s k (fLs (R 0) s k) 0 = (rFail R 1, 0) := if_pos hp
    repeat' (first
      | rw [if_pos hp] at *
      | exact absurd c_6 (by decide)
      | refine sX6_laughing_0 ?_
      | refine sX6_laughing_6 (fun c_6 => ?_) (fun c_6 => ?_)
      | refine sX6_laughing_9 ?_
      | refine sX6_laughing_13 ?_
      | refine sX6_laughing_19 ?_
      | refine iX6_laughing_3 (c6_isNowhere hV H) rp_is (zpr ?_)
      | refine iX6_laughing_16 (c6_laughers hV ?_ ?_ ?_) rp_is (zpr ?_)
      | with_reducible exact zqi rfl
      | simp only [rs_4, rs_5, rs_6, rs_7, rs_8, rs_9, rs_10, rs_11, rs_12, rs_14, rs_15, rs_17, rs_18, rs_20, rf_r, ra_0, ra_1, ra_2, ra_3, ra_4, ra_5, ra_6, rFail_0]
      | fail)
    all_goals exact zqo e
  · have e : oNow R s k (fLs (R 0) s k) 0 = (rFail R 0, fLs (R 0) s k) := if_neg hp
    obtain ⟨i, j, hi, hj, rfl, rfl⟩ := H.isP.mp (fIs01P.resolve_left hp)
    have hz := (H.gzz hi).2.2.1
    have hsO := H.sok hi
    have hkO : KOk (nI j) := KOk.n hj hz
    repeat' (first
      | rw [if_neg hp] at *
      | exact absurd rfl c_6
      | with_reducible exact hsO
      | with_reducible exact hkO
      | with_reducible exact hR
      | refine sX6_laughing_0 ?_
      | refine sX6_laughing_6 (fun c_6 => ?_) (fun c_6 => ?_)
      | refine sX6_laughing_9 ?_
      | refine sX6_laughing_13 ?_
      | refine sX6_laughing_19 ?_
      | refine iX6_laughing_3 (c6_isNowhere hV H) rp_is (zpr ?_)
      | refine iX6_laughing_16 (c6_laughers hV ?_ ?_ ?_) rp_is (zpr ?_)
      | with_reducible exact zqi rfl
      | simp only [rs_4, rs_5, rs_6, rs_7, rs_8, rs_9, rs_10, rs_11, rs_12, rs_14, rs_15, rs_17, rs_18, rs_20, rf_r, ra_0, ra_1, ra_2, ra_3, ra_4, ra_5, ra_6, rFail_0]
      | fail)
    all_goals exact zqo e
def cI (x : Int32) : Int32 := (x.toUInt32 % 65536).toInt32
theorem c6_letterAt (hV : zV g) (H : Inv (R 0) n S r) : tX6_letterAt g [.ref m, .int s, .int k, .int b] (rput g m R M) nX6_letterAt 0 0 (zQo g m M (oNow R s k (cI (96 + fOf (R 0) s ((if b = 0 then 10 else 2) + k))) 32)) := by
  refine eX6_letterAt hV ?_
  by_cases hp : fIsP (R 0) s k = 0
  · have e : oNow R s k (cI (96 + fOf (R 0) s ((if b = 0 then 10 else 2) + k))) 32 = (rFail R 1, 32) := if_pos hp
    repeat' (first
      | rw [if_pos hp] at *
      | exact absurd c_6 (by decide)
      | exact (by decide : narrow .char (.int 32) = .int 32)
      | refine sX6_letterAt_0 ?_
      | refine sX6_letterAt_6 (fun c_6 => ?_) (fun c_6 => ?_)
      | refine sX6_letterAt_9 ?_
      | refine sX6_letterAt_14 (fun c_14 => ?_) (fun c_14 => ?_)
      | refine sX6_letterAt_22 ?_
      | refine sX6_letterAt_26 ?_
      | refine sX6_letterAt_28 ?_
      | refine sX6_letterAt_33 ?_
      | refine sX6_letterAt_35 ?_ ?_
      | refine iX6_letterAt_3 (c6_isNowhere hV H) rp_is (zpr ?_)
      | refine iX6_letterAt_30 (c6_of hV ?_) rp_is (zpr ?_)
      | with_reducible exact zqi rfl
      | simp only [rs_4, rs_5, rs_6, rs_7, rs_8, rs_9, rs_10, rs_11, rs_12, rs_14, rs_15, rs_17, rs_18, rs_20, rf_r, ra_0, ra_1, ra_2, ra_3, ra_4, ra_5, ra_6, rFail_0]
      | fail)
    all_goals exact zqo e
  · have e : oNow R s k (cI (96 + fOf (R 0) s ((if b = 0 then 10 else 2) + k))) 32 = (rFail R 0, cI (96 + fOf (R 0) s ((if b = 0 then 10 else 2) + k))) := if_neg hp
    obtain ⟨i, j, hi, hj, rfl, rfl⟩ := H.isP.mp (fIs01P.resolve_left hp)
    have hz := (H.gzz hi).2.2.1
    have hsO := H.sok hi
    have hkO : KOk (nI j) := KOk.n hj hz
    have v10 := hkO.k10 hsO
    have v2 := hkO.k2 hsO
    repeat' (first
      | rw [if_neg hp] at *
      | exact absurd rfl c_6
      | with_reducible exact v10
      | with_reducible exact v2
      | exact pk_nc _
      | refine sX6_letterAt_0 ?_
      | refine sX6_letterAt_6 (fun c_6 => ?_) (fun c_6 => ?_)
      | refine sX6_letterAt_9 ?_
      | refine sX6_letterAt_14 (fun c_14 => ?_) (fun c_14 => ?_)
      | refine sX6_letterAt_22 ?_
      | refine sX6_letterAt_26 ?_
      | refine sX6_letterAt_28 ?_
      | refine sX6_letterAt_33 ?_
      | refine sX6_letterAt_35 ?_ ?_
      | refine iX6_letterAt_3 (c6_isNowhere hV H) rp_is (zpr ?_)
      | refine iX6_letterAt_30 (c6_of hV ?_) rp_is (zpr ?_)
      | with_reducible exact zqi rfl
      | simp only [rs_4, rs_5, rs_6, rs_7, rs_8, rs_9, rs_10, rs_11, rs_12, rs_14, rs_15, rs_17, rs_18, rs_20, rf_r, ra_0, ra_1, ra_2, ra_3, ra_4, ra_5, ra_6, rFail_0]
      | fail)
    · refine zqo ?_; rw [e, if_pos c_14]; rfl
    · refine zqo ?_; rw [e, if_neg c_14]; rfl
theorem c6_fines (hV : zV g) (H : Inv (R 0) n S r) : tX6_fines g [.ref m, .int s, .int b] (rput g m R M) nX6_fines 0 0 (zQo g m M (if fIsS (R 0) s = 0 then (rFail R 1, 0) else (rFail R 0, fFinesOf (R 0) s))) := by
  refine eX6_fines hV ?_
  by_cases hp : fIsS (R 0) s = 0
  · rw [if_pos hp]
    repeat' (first
      | exact absurd hp c_6
      | exact absurd c_17 (by decide)
      | refine sX6_fines_0 ?_
      | refine sX6_fines_6 (fun c_6 => ?_) (fun c_6 => ?_)
      | refine sX6_fines_9 ?_
      | refine sX6_fines_13 ?_
      | refine sX6_fines_17 (fun c_17 => ?_) (fun c_17 => ?_)
      | refine sX6_fines_20 ?_
      | refine sX6_fines_24 ?_
      | refine sX6_fines_29 ?_
      | refine iX6_fines_3 (c6_isSheet hV) rp_is (zpr ?_)
      | refine iX6_fines_14 (c6_fails hV) rp_is (zpr ?_)
      | refine iX6_fines_26 (c6_finesOf hV ?_) rp_is (zpr ?_)
      | with_reducible exact zqi rfl
      | simp only [rs_4, rs_5, rs_6, rs_7, rs_8, rs_9, rs_10, rs_11, rs_12, rs_14, rs_15, rs_17, rs_18, rs_20, rf_r, ra_0, ra_1, ra_2, ra_3, ra_4, ra_5, ra_6, rFail_0]
      | fail)
    all_goals exact zqo rfl
  · rw [if_neg hp]
    obtain ⟨i, hi, rfl⟩ := H.isS.mp (fIs01S.resolve_left hp)
    have hO := H.sok hi
    repeat' (first
      | exact absurd c_6 hp
      | exact absurd c_17 (by decide)
      | with_reducible exact hO
      | refine sX6_fines_0 ?_
      | refine sX6_fines_6 (fun c_6 => ?_) (fun c_6 => ?_)
      | refine sX6_fines_9 ?_
      | refine sX6_fines_13 ?_
      | refine sX6_fines_17 (fun c_17 => ?_) (fun c_17 => ?_)
      | refine sX6_fines_20 ?_
      | refine sX6_fines_24 ?_
      | refine sX6_fines_29 ?_
      | refine iX6_fines_3 (c6_isSheet hV) rp_is (zpr ?_)
      | refine iX6_fines_14 (c6_fails hV) rp_is (zpr ?_)
      | refine iX6_fines_26 (c6_finesOf hV ?_) rp_is (zpr ?_)
      | with_reducible exact zqi rfl
      | simp only [rs_4, rs_5, rs_6, rs_7, rs_8, rs_9, rs_10, rs_11, rs_12, rs_14, rs_15, rs_17, rs_18, rs_20, rf_r, ra_0, ra_1, ra_2, ra_3, ra_4, ra_5, ra_6, rFail_0]
      | fail)
    all_goals exact zqo rfl
def oMend (R : Nat → Nat → Int32) (s : Int32) : (Nat → Nat → Int32) × Int32 := if fIsS (R 0) s = 0 then (rFail R 1, 0) else (rFail R 0, bI (¬ fBy (R 0) (fOf (R 0) s 0) 0 < fFinesOf (R 0) s))
theorem c6_canMend (hV : zV g) (H : Inv (R 0) n S r) : tX6_canMend g [.ref m, .int s] (rput g m R M) nX6_canMend 0 0 (zQo g m M (oMend R s)) := by
  refine eX6_canMend hV ?_
  by_cases hp : fIsS (R 0) s = 0
  · have e : oMend R s = (rFail R 1, 0) := if_pos hp
    repeat' (first
      | exact absurd hp c_6
      | exact absurd c_17 (by decide)
      | exact Or.inl rfl
      | refine sX6_canMend_0 ?_
      | refine sX6_canMend_6 (fun c_6 => ?_) (fun c_6 => ?_)
      | refine sX6_canMend_9 ?_
      | refine sX6_canMend_13 ?_
      | refine sX6_canMend_17 (fun c_17 => ?_) (fun c_17 => ?_)
      | refine sX6_canMend_20 ?_
      | refine sX6_canMend_27 ?_
      | refine sX6_canMend_31 ?_
      | refine sX6_canMend_36 (fun c_36 => ?_) (fun c_36 => ?_)
      | refine sX6_canMend_39 ?_
      | refine sX6_canMend_43 ?_
      | refine sX6_canMend_44 (by first | exact Or.inl rfl | exact Or.inr rfl | exact bI_01 _ | assumption) ?_
      | refine iX6_canMend_3 (c6_isSheet hV) rp_is (zpr ?_)
      | refine iX6_canMend_14 (c6_fails hV) rp_is (zpr ?_)
      | refine iX6_canMend_24 (c6_of hV ?_) rp_is (zpr ?_)
      | refine iX6_canMend_28 (c6_by hV ?_) rp_is (zpr ?_)
      | refine iX6_canMend_33 (c6_finesOf hV ?_) rp_is (zpr ?_)
      | with_reducible exact zqi rfl
      | simp only [rs_4, rs_5, rs_6, rs_7, rs_8, rs_9, rs_10, rs_11, rs_12, rs_14, rs_15, rs_17, rs_18, rs_20, rf_r, ra_0, ra_1, ra_2, ra_3, ra_4, ra_5, ra_6, rFail_0]
      | fail)
    all_goals exact zqo e
  · have e : oMend R s = (rFail R 0, bI (¬ fBy (R 0) (fOf (R 0) s 0) 0 < fFinesOf (R 0) s)) := if_neg hp
    obtain ⟨i, hi, rfl⟩ := H.isS.mp (fIs01S.resolve_left hp)
    have hO := H.sok hi
    have v0 := hO.a0
    have w0 := (H.hown hi).a0
    repeat' (first
      | exact absurd c_6 hp
      | exact absurd c_17 (by decide)
      | with_reducible exact hO
      | with_reducible exact v0
      | with_reducible exact w0
      | exact Or.inl rfl
      | exact Or.inr rfl
      | refine sX6_canMend_0 ?_
      | refine sX6_canMend_6 (fun c_6 => ?_) (fun c_6 => ?_)
      | refine sX6_canMend_9 ?_
      | refine sX6_canMend_13 ?_
      | refine sX6_canMend_17 (fun c_17 => ?_) (fun c_17 => ?_)
      | refine sX6_canMend_20 ?_
      | refine sX6_canMend_27 ?_
      | refine sX6_canMend_31 ?_
      | refine sX6_canMend_36 (fun c_36 => ?_) (fun c_36 => ?_)
      | refine sX6_canMend_39 ?_
      | refine sX6_canMend_43 ?_
      | refine sX6_canMend_44 (by first | exact Or.inl rfl | exact Or.inr rfl | exact bI_01 _ | assumption) ?_
      | refine iX6_canMend_3 (c6_isSheet hV) rp_is (zpr ?_)
      | refine iX6_canMend_14 (c6_fails hV) rp_is (zpr ?_)
      | refine iX6_canMend_24 (c6_of hV ?_) rp_is (zpr ?_)
      | refine iX6_canMend_28 (c6_by hV ?_) rp_is (zpr ?_)
      | refine iX6_canMend_33 (c6_finesOf hV ?_) rp_is (zpr ?_)
      | with_reducible exact zqi rfl
      | simp only [rs_4, rs_5, rs_6, rs_7, rs_8, rs_9, rs_10, rs_11, rs_12, rs_14, rs_15, rs_17, rs_18, rs_20, rf_r, ra_0, ra_1, ra_2, ra_3, ra_4, ra_5, ra_6, rFail_0]
      | fail)
    all_goals try simp only [rFail_0] at *
    · rw [bI_f (fun h => h c_36)] at e; exact zqo e
    · rw [bI_t c_36] at e; exact zqo e
def oCalm (R : Nat → Nat → Int32) (h : Int32) : (Nat → Nat → Int32) × Int32 := if fIsH (R 0) h = 0 then (rFail R 1, 0) else (rFail R 0, if fAsh (R 0) h = 0 then 0 else fBy (R 0) h 1 - 20)
theorem c6_calmIn (hV : zV g) (H : Inv (R 0) n S r) : tX6_calmIn g [.ref m, .int h] (rput g m R M) nX6_calmIn 0 0 (zQo g m M (oCalm R h)) := by
  refine eX6_calmIn hV ?_
  by_cases hp : fIsH (R 0) h = 0
  · have e : oCalm R h = (rFail R 1, 0) := if_pos hp
    repeat' (first
      | exact absurd hp c_6
      | exact absurd c_17 (by decide)
      | refine sX6_calmIn_0 ?_
      | refine sX6_calmIn_6 (fun c_6 => ?_) (fun c_6 => ?_)
      | refine sX6_calmIn_9 ?_
      | refine sX6_calmIn_13 ?_
      | refine sX6_calmIn_17 (fun c_17 => ?_) (fun c_17 => ?_)
      | refine sX6_calmIn_20 ?_
      | refine sX6_calmIn_25 (fun c_25 => ?_) (fun c_25 => ?_)
      | refine sX6_calmIn_28 ?_
      | refine sX6_calmIn_32 ?_
      | refine sX6_calmIn_38 ?_
      | refine sX6_calmIn_41 ?_
      | refine iX6_calmIn_3 (c6_isHouse hV) rp_is (zpr ?_)
      | refine iX6_calmIn_14 (c6_fails hV) rp_is (zpr ?_)
      | refine iX6_calmIn_22 (c6_isAshamed hV ?_) rp_is (zpr ?_)
      | refine iX6_calmIn_35 (c6_by hV ?_) rp_is (zpr ?_)
      | with_reducible exact zqi rfl
      | simp only [rs_4, rs_5, rs_6, rs_7, rs_8, rs_9, rs_10, rs_11, rs_12, rs_14, rs_15, rs_17, rs_18, rs_20, rf_r, ra_0, ra_1, ra_2, ra_3, ra_4, ra_5, ra_6, rFail_0]
      | fail)
    all_goals exact zqo e
  · have e : oCalm R h = (rFail R 0, if fAsh (R 0) h = 0 then 0 else fBy (R 0) h 1 - 20) := if_neg hp
    obtain ⟨i, hi, rfl⟩ := H.isH.mp (fIs01H.resolve_left hp)
    have hO := H.hok hi
    have w1 := hO.a1
    repeat' (first
      | exact absurd c_6 hp
      | exact absurd c_17 (by decide)
      | with_reducible exact hO
      | with_reducible exact w1
      | refine sX6_calmIn_0 ?_
      | refine sX6_calmIn_6 (fun c_6 => ?_) (fun c_6 => ?_)
      | refine sX6_calmIn_9 ?_
      | refine sX6_calmIn_13 ?_
      | refine sX6_calmIn_17 (fun c_17 => ?_) (fun c_17 => ?_)
      | refine sX6_calmIn_20 ?_
      | refine sX6_calmIn_25 (fun c_25 => ?_) (fun c_25 => ?_)
      | refine sX6_calmIn_28 ?_
      | refine sX6_calmIn_32 ?_
      | refine sX6_calmIn_38 ?_
      | refine sX6_calmIn_41 ?_
      | refine iX6_calmIn_3 (c6_isHouse hV) rp_is (zpr ?_)
      | refine iX6_calmIn_14 (c6_fails hV) rp_is (zpr ?_)
      | refine iX6_calmIn_22 (c6_isAshamed hV ?_) rp_is (zpr ?_)
      | refine iX6_calmIn_35 (c6_by hV ?_) rp_is (zpr ?_)
      | with_reducible exact zqi rfl
      | simp only [rs_4, rs_5, rs_6, rs_7, rs_8, rs_9, rs_10, rs_11, rs_12, rs_14, rs_15, rs_17, rs_18, rs_20, rf_r, ra_0, ra_1, ra_2, ra_3, ra_4, ra_5, ra_6, rFail_0]
      | fail)
    all_goals try simp only [rFail_0] at *
    · rw [if_neg c_25] at e; exact zqo e
    · rw [if_pos c_25] at e; exact zqo e
end RV
