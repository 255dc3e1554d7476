/-! ErrataPressModel: set, license, correct -/
section RS
variable {g : ZG} {m : Nat} {R : Nat → Nat → Int32} {M : ZM} {s w h k x y c : Int32} {n S r : Nat} {f : Nat → Int32}
theorem kept_0 : kept R f 0 = f := rrow_s
theorem ix2 (i j : Nat) : (22 + 26 * nI i + (2 + nI j) : Int32) = nI (24 + 26 * i + j) := by
  rw [show (2 + nI j : Int32) = nI (2 + j) from nI_add 2 j, ixS]; congr 1; omega
theorem ix10 (i j : Nat) : (22 + 26 * nI i + (10 + nI j) : Int32) = nI (32 + 26 * i + j) := by
  rw [show (10 + nI j : Int32) = nI (10 + j) from nI_add 10 j, ixS]; congr 1; omega
theorem ix18 (i j : Nat) : (22 + 26 * nI i + (18 + nI j) : Int32) = nI (40 + 26 * i + j) := by
  rw [show (18 + nI j : Int32) = nI (18 + j) from nI_add 18 j, ixS]; congr 1; omega
theorem ixH0 (i : Nat) : (10 + 3 * nI i + 0 : Int32) = nI (10 + 3 * i) := ixH i 0
theorem ixH1 (i : Nat) : (10 + 3 * nI i + 1 : Int32) = nI (11 + 3 * i) := by
  rw [show (1 : Int32) = nI 1 from rfl, ixH]; congr 1; omega
theorem ixH2 (i : Nat) : (10 + 3 * nI i + 2 : Int32) = nI (12 + 3 * i) := by
  rw [show (2 : Int32) = nI 2 from rfl, ixH]; congr 1; omega
theorem SOk_of {q q2 : Nat → Int32} {i : Nat} (hi : i < 8) (h : SOk q (nI i)) (e : q2 (23 + 26 * i) = q (23 + 26 * i)) : SOk q2 (nI i) := by
  obtain ⟨x, z, h1, h2, h3, h4⟩ := h
  exact ⟨x, z, h1, h2, h3, by rw [fOf_1 i hi] at h4 ⊢; rw [e]; exact h4⟩
def gSet (q : Nat → Int32) (i j : Nat) (x : Int32) : Nat → Int32 := upd (upd q (32 + 26 * i + j) x) (40 + 26 * i + j) 1
def oSet (R : Nat → Nat → Int32) (s k x : Int32) : (Nat → Nat → Int32) × Int32 :=
  if fIsP (R 0) s k = 0 then (rFail R 1, 0) else if ¬ (97 ≤ x ∧ x ≤ 102) then (rFail R 2, 0)
  else if fOf (R 0) s (10 + k) = x - 97 + 1 then (rRef (rFail R 0) 3 2 k, 0) else if fOf (R 0) s (2 + k) = x - 97 + 1 then (rRef (rFail R 0) 3 3 k, 0)
  else (kept R (gSet (R 0) s.toNatClampNeg k.toNatClampNeg (x - 97 + 1)), fMis (gSet (R 0) s.toNatClampNeg k.toNatClampNeg (x - 97 + 1)) s 1)
theorem c6_set (hV : zV g) (H : Inv (R 0) n S r) (hc : Ch R) : tX6_set g [.ref m, .int s, .int k, .int x] (rput g m R M) nX6_set 0 0 (zQo g m M (oSet R s k x)) := by
  refine eX6_set hV ?_
  by_cases hp : fIsP (R 0) s k = 0
  · repeat' (first
      | with_reducible exact H.isSv
      | exact absurd hp c_7
      | exact absurd c_33 (by decide)
      | refine sX6_set_0 ?_
      | refine sX6_set_7 (fun c_7 => ?_) (fun c_7 => ?_)
      | refine sX6_set_10 ?_
      | refine sX6_set_14 ?_
      | refine sX6_set_22 (fun c_22 => ?_) (fun c_22 => ?_)
      | refine sX6_set_25 ?_
      | refine sX6_set_29 ?_
      | refine sX6_set_33 (fun c_33 => ?_) (fun c_33 => ?_)
      | refine sX6_set_36 ?_
      | refine sX6_set_38 ?_
      | refine sX6_set_55 (fun c_55 => ?_) (fun c_55 => ?_)
      | refine sX6_set_60 ?_
      | refine sX6_set_67 ?_
      | refine sX6_set_68 ?_
      | refine sX6_set_76 (fun c_76 => ?_) (fun c_76 => ?_)
      | refine sX6_set_81 ?_
      | refine sX6_set_88 ?_
      | refine sX6_set_89 rp_o rfl ?_
      | refine sX6_set_97 ?_
      | refine sX6_set_108 ?_
      | refine sX6_set_118 ?_
      | refine sX6_set_124 ?_
      | refine iX6_set_4 (c6_isPlace hV ?_) rp_is (zpr ?_)
      | refine iX6_set_19 (c6_in hV) (zpr ?_)
      | refine iX6_set_30 (c6_fails hV) rp_is (zpr ?_)
      | refine iX6_set_64 (c6_refuses hV) rp_is (zpr ?_)
      | refine iX6_set_85 (c6_refuses hV) rp_is (zpr ?_)
      | refine iX6_set_105 (c6_lays hV ?_) rp_is (zpv ?_)
      | refine iX6_set_115 (c6_lays hV ?_) rp_is (zpv ?_)
      | refine iX6_set_121 (c6_misprints hV ?_) rp_is (zpr ?_)
      | with_reducible exact zqi rfl
      | simp only [rs_4, rs_5, rs_6, rs_7, rs_8, rs_9, rs_10, rs_11, rs_12, rs_14, rs_15, rs_17, rs_18, rs_20, rf_r, ra_0, ra_1, ra_2, ra_3, ra_4, ra_5, ra_6, rFail_0]
      | fail)
    all_goals exact zqo (by unfold oSet; rw [if_pos hp])
  · obtain ⟨i, j, hi, hj, rfl, rfl⟩ := H.isP.mp (fIs01P.resolve_left hp)
    have hS8 := H.2.2.2.1
    have hz := (H.gzz hi).2.2.1
    have hsO := H.sok hi
    have hkO : KOk (nI j) := KOk.n hj hz
    have v10 := hkO.k10 hsO
    have v2 := hkO.k2 hsO
    have ei : (nI i).toNatClampNeg = i := nI_clamp (by omega)
    have ej : (nI j).toNatClampNeg = j := nI_clamp (by omega)
    repeat' (first
      | with_reducible exact H.isSv
      | exact absurd c_7 hp
      | exact absurd c_33 (by decide)
      | with_reducible exact v10
      | with_reducible exact v2
      | refine sX6_set_0 ?_
      | refine sX6_set_7 (fun c_7 => ?_) (fun c_7 => ?_)
      | refine sX6_set_10 ?_
      | refine sX6_set_14 ?_
      | refine sX6_set_22 (fun c_22 => ?_) (fun c_22 => ?_)
      | refine sX6_set_25 ?_
      | refine sX6_set_29 ?_
      | refine sX6_set_33 (fun c_33 => ?_) (fun c_33 => ?_)
      | refine sX6_set_36 ?_
      | refine sX6_set_38 ?_
      | refine sX6_set_55 (fun c_55 => ?_) (fun c_55 => ?_)
      | refine sX6_set_60 ?_
      | refine sX6_set_67 ?_
      | refine sX6_set_68 ?_
      | refine sX6_set_76 (fun c_76 => ?_) (fun c_76 => ?_)
      | refine sX6_set_81 ?_
      | refine sX6_set_88 ?_
      | refine sX6_set_89 rp_o rfl ?_
      | refine sX6_set_97 ?_
      | refine sX6_set_108 ?_
      | refine sX6_set_118 ?_
      | refine sX6_set_124 ?_
      | refine iX6_set_4 (c6_isPlace hV ?_) rp_is (zpr ?_)
      | refine iX6_set_19 (c6_in hV) (zpr ?_)
      | refine iX6_set_30 (c6_fails hV) rp_is (zpr ?_)
      | refine iX6_set_52 (c6_of hV ?_) rp_is (zpr ?_)
      | refine iX6_set_64 (c6_refuses hV) rp_is (zpr ?_)
      | refine iX6_set_73 (c6_of hV ?_) rp_is (zpr ?_)
      | refine iX6_set_85 (c6_refuses hV) rp_is (zpr ?_)
      | refine iX6_set_105 (c6_lays hV ?_) rp_is (zpv ?_)
      | refine iX6_set_115 (c6_lays hV ?_) rp_is (zpv ?_)
      | refine iX6_set_121 (c6_misprints hV ?_) rp_is (zpr ?_)
      | with_reducible exact zqi rfl
      | simp only [rs_4, rs_5, rs_6, rs_7, rs_8, rs_9, rs_10, rs_11, rs_12, rs_14, rs_15, rs_17, rs_18, rs_20, rf_r, ra_0, ra_1, ra_2, ra_3, ra_4, ra_5, ra_6, rFail_0]
      | fail)
    all_goals try simp only [rFail_0] at *
    · exact zqo (by unfold oSet; rw [if_neg hp, if_pos (bI_no c_22)])
    · have hx := bI_yes c_22
      refine iX6_set_94 (c6_keepsk hV hc) rp_is (zpv ?_)
      refine sX6_set_97 ?_
      refine iX6_set_105 (c6_laysk hV (ix10 i j) (by omega)) rp_is (zpv ?_)
      refine sX6_set_108 ?_
      refine iX6_set_115 (c6_laysk hV (ix18 i j) (by omega)) rp_is (zpv ?_)
      refine sX6_set_118 ?_
      have hsO2 : SOk (gSet (R 0) i j (x - 97 + 1)) (nI i) := SOk_of (by omega) hsO (by unfold gSet; rw [upd_n (by omega), upd_n (by omega)])
      refine iX6_set_121 (c6_misprints (R := kept R (gSet (R 0) i j (x - 97 + 1))) hV (by rw [kept_0]; exact hsO2)) rp_is (zpr ?_)
      refine sX6_set_124 (zqo ?_)
      unfold oSet
      rw [if_neg hp, if_neg (fun h => h hx), if_neg c_55, if_neg c_76, ei, ej]; rfl
    · exact zqo (by unfold oSet; rw [if_neg hp, if_neg (fun h => h (bI_yes c_22)), if_neg c_55, if_pos c_76])
    · exact zqo (by unfold oSet; rw [if_neg hp, if_neg (fun h => h (bI_yes c_22)), if_pos c_55])
def gLic (q : Nat → Int32) (i j o : Nat) (p : Int32) : Nat → Int32 := upd (upd (upd q (10 + 3 * o) (q (10 + 3 * o) + -p)) 7 (q 7 + p)) (40 + 26 * i + j) 2
def oLic (R : Nat → Nat → Int32) (s k : Int32) : (Nat → Nat → Int32) × Int32 :=
  if fIsP (R 0) s k = 0 then (rFail R 1, 0) else if fOf (R 0) s (18 + k) = 0 then (rRef (rFail R 0) 2 4 k, 0) else if ¬ fOf (R 0) s (18 + k) ≤ 1 then (rRef (rFail R 0) 2 5 k, 0)
  else if ¬ fAsh (R 0) (fOf (R 0) s 0) = 0 then (rRef (rFail R 0) 2 6 (fBy (R 0) (fOf (R 0) s 0) 1), 0)
  else if ¬ fPrice (R 0) (fOf (R 0) s 0) ≤ fBy (R 0) (fOf (R 0) s 0) 0 then (rRef (rFail R 0) 2 7 (fBy (R 0) (fOf (R 0) s 0) 0), 0)
  else (kept R (gLic (R 0) s.toNatClampNeg k.toNatClampNeg (fOf (R 0) s 0).toNatClampNeg (fPrice (R 0) (fOf (R 0) s 0))), fPrice (R 0) (fOf (R 0) s 0))
theorem c6_license (hV : zV g) (H : Inv (R 0) n S r) (hc : Ch R) : tX6_license g [.ref m, .int s, .int k] (rput g m R M) nX6_license 0 0 (zQo g m M (oLic R s k)) := by
  refine eX6_license hV ?_
  by_cases hp : fIsP (R 0) s k = 0
  · repeat' (first
      | with_reducible exact H.isSv
      | exact absurd hp c_7
      | exact absurd c_18 (by decide)
      | refine sX6_license_0 ?_
      | refine sX6_license_7 (fun c_7 => ?_) (fun c_7 => ?_)
      | refine sX6_license_10 ?_
      | refine sX6_license_14 ?_
      | refine sX6_license_18 (fun c_18 => ?_) (fun c_18 => ?_)
      | refine sX6_license_21 ?_
      | refine sX6_license_23 ?_
      | refine sX6_license_29 ?_
      | refine sX6_license_36 (fun c_36 => ?_) (fun c_36 => ?_)
      | refine sX6_license_39 ?_
      | refine sX6_license_46 ?_
      | refine sX6_license_47 ?_
      | refine sX6_license_53 (fun c_53 => ?_) (fun c_53 => ?_)
      | refine sX6_license_57 ?_
      | refine sX6_license_64 ?_
      | refine sX6_license_65 ?_
      | refine sX6_license_70 (fun c_70 => ?_) (fun c_70 => ?_)
      | refine sX6_license_73 ?_
      | refine sX6_license_86 ?_
      | refine sX6_license_87 ?_
      | refine sX6_license_92 ?_
      | refine sX6_license_100 (fun c_100 => ?_) (fun c_100 => ?_)
      | refine sX6_license_105 ?_
      | refine sX6_license_118 ?_
      | refine sX6_license_119 rp_o rfl ?_
      | refine sX6_license_127 ?_
      | refine sX6_license_136 rp_o rfl rp_0 ?_ ?_
      | refine sX6_license_158 ?_
      | refine iX6_license_4 (c6_isPlace hV ?_) rp_is (zpr ?_)
      | refine iX6_license_15 (c6_fails hV) rp_is (zpr ?_)
      | refine iX6_license_33 (c6_mark hV ?_) rp_is (zpr ?_)
      | refine iX6_license_43 (c6_refuses hV) rp_is (zpr ?_)
      | refine iX6_license_50 (c6_mark hV ?_) rp_is (zpr ?_)
      | refine iX6_license_61 (c6_refuses hV) rp_is (zpr ?_)
      | refine iX6_license_67 (c6_isAshamed hV ?_) rp_is (zpr ?_)
      | refine iX6_license_80 (c6_by hV ?_) rp_is (zpr ?_)
      | refine iX6_license_83 (c6_refuses hV) rp_is (zpr ?_)
      | refine iX6_license_89 (c6_price hV ?_) rp_is (zpr ?_)
      | refine iX6_license_97 (c6_by hV ?_) rp_is (zpr ?_)
      | refine iX6_license_112 (c6_by hV ?_) rp_is (zpr ?_)
      | refine iX6_license_115 (c6_refuses hV) rp_is (zpr ?_)
      | refine iX6_license_124 (c6_keeps hV ?_) rp_is (zpv ?_)
      | refine iX6_license_133 (c6_adds hV ?_) rp_is (zpv ?_)
      | refine iX6_license_155 (c6_lays hV ?_) rp_is (zpv ?_)
      | with_reducible exact zqi rfl
      | simp only [rs_4, rs_5, rs_6, rs_7, rs_8, rs_9, rs_10, rs_11, rs_12, rs_14, rs_15, rs_17, rs_18, rs_20, rf_r, ra_0, ra_1, ra_2, ra_3, ra_4, ra_5, ra_6, rFail_0]
      | fail)
    all_goals exact zqo (by unfold oLic; rw [if_pos hp])
  · obtain ⟨i, j, hi, hj, rfl, rfl⟩ := H.isP.mp (fIs01P.resolve_left hp)
    have hS8 := H.2.2.2.1
    have hn4 := H.2.1
    have hz := (H.gzz hi).2.2.1
    have hsO := H.sok hi
    have hkO : KOk (nI j) := KOk.n hj hz
    have v0 := hsO.a0
    have v18 := hkO.k18 hsO
    have hO := H.hown hi
    have w0 := hO.a0
    have w1 := hO.a1
    have hG := H.gse
    have ei : (nI i).toNatClampNeg = i := nI_clamp (by omega)
    have ej : (nI j).toNatClampNeg = j := nI_clamp (by omega)
    obtain ⟨o, ho, -, eo⟩ := H.own hi
    have eo2 : (fOf (R 0) (nI i) 0).toNatClampNeg = o := cl_nI eo (by omega)
    repeat' (first
      | with_reducible exact H.isSv
      | exact absurd c_7 hp
      | exact absurd c_18 (by decide)
      | with_reducible exact v0
      | with_reducible exact v18
      | with_reducible exact w0
      | with_reducible exact w1
      | with_reducible exact hO
      | with_reducible exact hG
      | refine sX6_license_0 ?_
      | refine sX6_license_7 (fun c_7 => ?_) (fun c_7 => ?_)
      | refine sX6_license_10 ?_
      | refine sX6_license_14 ?_
      | refine sX6_license_18 (fun c_18 => ?_) (fun c_18 => ?_)
      | refine sX6_license_21 ?_
      | refine sX6_license_23 ?_
      | refine sX6_license_29 ?_
      | refine sX6_license_36 (fun c_36 => ?_) (fun c_36 => ?_)
      | refine sX6_license_39 ?_
      | refine sX6_license_46 ?_
      | refine sX6_license_47 ?_
      | refine sX6_license_53 (fun c_53 => ?_) (fun c_53 => ?_)
      | refine sX6_license_57 ?_
      | refine sX6_license_64 ?_
      | refine sX6_license_65 ?_
      | refine sX6_license_70 (fun c_70 => ?_) (fun c_70 => ?_)
      | refine sX6_license_73 ?_
      | refine sX6_license_86 ?_
      | refine sX6_license_87 ?_
      | refine sX6_license_92 ?_
      | refine sX6_license_100 (fun c_100 => ?_) (fun c_100 => ?_)
      | refine sX6_license_105 ?_
      | refine sX6_license_118 ?_
      | refine sX6_license_119 rp_o rfl ?_
      | refine sX6_license_127 ?_
      | refine sX6_license_136 rp_o rfl rp_0 ?_ ?_
      | refine sX6_license_158 ?_
      | refine iX6_license_4 (c6_isPlace hV ?_) rp_is (zpr ?_)
      | refine iX6_license_15 (c6_fails hV) rp_is (zpr ?_)
      | refine iX6_license_26 (c6_of hV ?_) rp_is (zpr ?_)
      | refine iX6_license_33 (c6_mark hV ?_) rp_is (zpr ?_)
      | refine iX6_license_43 (c6_refuses hV) rp_is (zpr ?_)
      | refine iX6_license_50 (c6_mark hV ?_) rp_is (zpr ?_)
      | refine iX6_license_61 (c6_refuses hV) rp_is (zpr ?_)
      | refine iX6_license_67 (c6_isAshamed hV ?_) rp_is (zpr ?_)
      | refine iX6_license_80 (c6_by hV ?_) rp_is (zpr ?_)
      | refine iX6_license_83 (c6_refuses hV) rp_is (zpr ?_)
      | refine iX6_license_89 (c6_price hV ?_) rp_is (zpr ?_)
      | refine iX6_license_97 (c6_by hV ?_) rp_is (zpr ?_)
      | refine iX6_license_112 (c6_by hV ?_) rp_is (zpr ?_)
      | refine iX6_license_115 (c6_refuses hV) rp_is (zpr ?_)
      | refine iX6_license_133 (c6_adds hV ?_) rp_is (zpv ?_)
      | refine iX6_license_155 (c6_lays hV ?_) rp_is (zpv ?_)
      | with_reducible exact zqi rfl
      | simp only [rs_4, rs_5, rs_6, rs_7, rs_8, rs_9, rs_10, rs_11, rs_12, rs_14, rs_15, rs_17, rs_18, rs_20, rf_r, ra_0, ra_1, ra_2, ra_3, ra_4, ra_5, ra_6, rFail_0]
      | fail)
    all_goals simp only [rFail_0] at *
    · refine iX6_license_124 (c6_keepsk hV hc) rp_is (zpv ?_)
      refine sX6_license_127 ?_
      refine iX6_license_133 (c6_addsk hV (i := 10 + 3 * o) (by rw [eo, ixH0]) (by omega)) rp_is (zpv ?_)
      refine sX6_license_136 rp_o rfl kp_0 vl7 ?_
      rw [kc_0, show (7 : Int32).toNatClampNeg = 7 from rfl, upd_n (show 7 ≠ 10 + 3 * o by omega)]
      refine iX6_license_155 (c6_laysk hV (ix18 i j) (by omega)) rp_is (zpv ?_)
      refine sX6_license_158 (zqo ?_)
      unfold oLic
      rw [if_neg hp, if_neg c_36, if_neg (fun h => h c_53), if_neg (fun h => h c_70), if_neg (fun h => h c_100), ei, ej, eo2]; rfl
    · exact zqo (by unfold oLic; rw [if_neg hp, if_neg c_36, if_neg (fun h => h c_53), if_neg (fun h => h c_70), if_pos c_100])
    · exact zqo (by unfold oLic; rw [if_neg hp, if_neg c_36, if_neg (fun h => h c_53), if_pos c_70])
    · exact zqo (by unfold oLic; rw [if_neg hp, if_neg c_36, if_pos c_53])
    · exact zqo (by unfold oLic; rw [if_neg hp, if_pos c_36])
def gCor (q : Nat → Int32) (i j o : Nat) (x : Int32) : Nat → Int32 := upd (upd (upd (upd (upd q (10 + 3 * o) (q (10 + 3 * o) + -x)) (12 + 3 * o) (q (12 + 3 * o) + x)) 8 (q 8 + x)) (32 + 26 * i + j) (q (24 + 26 * i + j))) (40 + 26 * i + j) 0
def oCor (R : Nat → Nat → Int32) (s k : Int32) : (Nat → Nat → Int32) × Int32 :=
  if fIsP (R 0) s k = 0 then (rFail R 1, 0) else if fFine (R 0) s k = 0 then (rRef (rFail R 0) 2 4 k, 0)
  else if ¬ fFine (R 0) s k ≤ fBy (R 0) (fOf (R 0) s 0) 0 then (rRef (rFail R 0) 2 7 (fBy (R 0) (fOf (R 0) s 0) 0), 0)
  else (kept R (gCor (R 0) s.toNatClampNeg k.toNatClampNeg (fOf (R 0) s 0).toNatClampNeg (fFine (R 0) s k)), fFine (R 0) s k)
theorem c6_correct (hV : zV g) (H : Inv (R 0) n S r) (hc : Ch R) : tX6_correct g [.ref m, .int s, .int k] (rput g m R M) nX6_correct 0 0 (zQo g m M (oCor R s k)) := by
  refine eX6_correct hV ?_
  by_cases hp : fIsP (R 0) s k = 0
  · repeat' (first
      | with_reducible exact H.isSv
      | exact absurd hp c_7
      | exact absurd c_18 (by decide)
      | refine sX6_correct_0 ?_
      | refine sX6_correct_7 (fun c_7 => ?_) (fun c_7 => ?_)
      | refine sX6_correct_10 ?_
      | refine sX6_correct_14 ?_
      | refine sX6_correct_18 (fun c_18 => ?_) (fun c_18 => ?_)
      | refine sX6_correct_21 ?_
      | refine sX6_correct_23 ?_
      | refine sX6_correct_29 ?_
      | refine sX6_correct_36 (fun c_36 => ?_) (fun c_36 => ?_)
      | refine sX6_correct_43 ?_
      | refine sX6_correct_50 ?_
      | refine sX6_correct_51 ?_
      | refine sX6_correct_57 (fun c_57 => ?_) (fun c_57 => ?_)
      | refine sX6_correct_62 ?_
      | refine sX6_correct_75 ?_
      | refine sX6_correct_76 rp_o rfl ?_
      | refine sX6_correct_84 ?_
      | refine sX6_correct_93 ?_
      | refine sX6_correct_101 rp_o rfl rp_0 ?_ ?_
      | refine sX6_correct_130 ?_
      | refine sX6_correct_140 ?_
      | refine iX6_correct_4 (c6_isPlace hV ?_) rp_is (zpr ?_)
      | refine iX6_correct_15 (c6_fails hV) rp_is (zpr ?_)
      | refine iX6_correct_33 (c6_fineAt hV ?_ ?_) rp_is (zpr ?_)
      | refine iX6_correct_47 (c6_refuses hV) rp_is (zpr ?_)
      | refine iX6_correct_54 (c6_by hV ?_) rp_is (zpr ?_)
      | refine iX6_correct_69 (c6_by hV ?_) rp_is (zpr ?_)
      | refine iX6_correct_72 (c6_refuses hV) rp_is (zpr ?_)
      | refine iX6_correct_81 (c6_keeps hV ?_) rp_is (zpv ?_)
      | refine iX6_correct_90 (c6_adds hV ?_) rp_is (zpv ?_)
      | refine iX6_correct_98 (c6_adds hV ?_) rp_is (zpv ?_)
      | refine iX6_correct_124 (c6_of hV ?_) rp_is (zpr ?_)
      | refine iX6_correct_127 (c6_lays hV ?_) rp_is (zpv ?_)
      | refine iX6_correct_137 (c6_lays hV ?_) rp_is (zpv ?_)
      | with_reducible exact zqi rfl
      | simp only [rs_4, rs_5, rs_6, rs_7, rs_8, rs_9, rs_10, rs_11, rs_12, rs_14, rs_15, rs_17, rs_18, rs_20, rf_r, ra_0, ra_1, ra_2, ra_3, ra_4, ra_5, ra_6, rFail_0]
      | fail)
    all_goals exact zqo (by unfold oCor; rw [if_pos hp])
  · obtain ⟨i, j, hi, hj, rfl, rfl⟩ := H.isP.mp (fIs01P.resolve_left hp)
    have hS8 := H.2.2.2.1
    have hn4 := H.2.1
    have hz := (H.gzz hi).2.2.1
    have hsO := H.sok hi
    have hkO : KOk (nI j) := KOk.n hj hz
    have v0 := hsO.a0
    have hO := H.hown hi
    have w0 := hO.a0
    have ei : (nI i).toNatClampNeg = i := nI_clamp (by omega)
    have ej : (nI j).toNatClampNeg = j := nI_clamp (by omega)
    obtain ⟨o, ho, -, eo⟩ := H.own hi
    have eo2 : (fOf (R 0) (nI i) 0).toNatClampNeg = o := cl_nI eo (by omega)
    repeat' (first
      | with_reducible exact H.isSv
      | exact absurd c_7 hp
      | exact absurd c_18 (by decide)
      | with_reducible exact v0
      | with_reducible exact hsO
      | with_reducible exact hkO
      | with_reducible exact w0
      | refine sX6_correct_0 ?_
      | refine sX6_correct_7 (fun c_7 => ?_) (fun c_7 => ?_)
      | refine sX6_correct_10 ?_
      | refine sX6_correct_14 ?_
      | refine sX6_correct_18 (fun c_18 => ?_) (fun c_18 => ?_)
      | refine sX6_correct_21 ?_
      | refine sX6_correct_23 ?_
      | refine sX6_correct_29 ?_
      | refine sX6_correct_36 (fun c_36 => ?_) (fun c_36 => ?_)
      | refine sX6_correct_43 ?_
      | refine sX6_correct_50 ?_
      | refine sX6_correct_51 ?_
      | refine sX6_correct_57 (fun c_57 => ?_) (fun c_57 => ?_)
      | refine sX6_correct_62 ?_
      | refine sX6_correct_75 ?_
      | refine sX6_correct_76 rp_o rfl ?_
      | refine sX6_correct_84 ?_
      | refine sX6_correct_93 ?_
      | refine sX6_correct_101 rp_o rfl rp_0 ?_ ?_
      | refine sX6_correct_130 ?_
      | refine sX6_correct_140 ?_
      | refine iX6_correct_4 (c6_isPlace hV ?_) rp_is (zpr ?_)
      | refine iX6_correct_15 (c6_fails hV) rp_is (zpr ?_)
      | refine iX6_correct_26 (c6_of hV ?_) rp_is (zpr ?_)
      | refine iX6_correct_33 (c6_fineAt hV ?_ ?_) rp_is (zpr ?_)
      | refine iX6_correct_47 (c6_refuses hV) rp_is (zpr ?_)
      | refine iX6_correct_54 (c6_by hV ?_) rp_is (zpr ?_)
      | refine iX6_correct_69 (c6_by hV ?_) rp_is (zpr ?_)
      | refine iX6_correct_72 (c6_refuses hV) rp_is (zpr ?_)
      | refine iX6_correct_90 (c6_adds hV ?_) rp_is (zpv ?_)
      | refine iX6_correct_98 (c6_adds hV ?_) rp_is (zpv ?_)
      | refine iX6_correct_124 (c6_of hV ?_) rp_is (zpr ?_)
      | refine iX6_correct_127 (c6_lays hV ?_) rp_is (zpv ?_)
      | refine iX6_correct_137 (c6_lays hV ?_) rp_is (zpv ?_)
      | with_reducible exact zqi rfl
      | simp only [rs_4, rs_5, rs_6, rs_7, rs_8, rs_9, rs_10, rs_11, rs_12, rs_14, rs_15, rs_17, rs_18, rs_20, rf_r, ra_0, ra_1, ra_2, ra_3, ra_4, ra_5, ra_6, rFail_0]
      | fail)
    all_goals simp only [rFail_0] at *
    · refine iX6_correct_81 (c6_keepsk hV hc) rp_is (zpv ?_)
      refine sX6_correct_84 ?_
      refine iX6_correct_90 (c6_addsk hV (i := 10 + 3 * o) (by rw [eo, ixH0]) (by omega)) rp_is (zpv ?_)
      refine sX6_correct_93 ?_
      refine iX6_correct_98 (c6_addsk hV (i := 12 + 3 * o) (by rw [eo, ixH2]) (by omega)) rp_is (zpv ?_)
      refine sX6_correct_101 rp_o rfl kp_0 vl8 ?_
      rw [kc_0, show (8 : Int32).toNatClampNeg = 8 from rfl, upd_n (show 8 ≠ 12 + 3 * o by omega), upd_n (show 8 ≠ 10 + 3 * o by omega), upd_n (show 12 + 3 * o ≠ 10 + 3 * o by omega)]
      refine iX6_correct_124 (c6_of (R := kept R _) hV (vp_nI (ix2 i j) (by omega) (by decide))) rp_is (zpr ?_)
      rw [kept_0]
      unfold fOf
      rw [cl_nI (ix2 i j) (by omega), upd_n (by omega), upd_n (by omega), upd_n (by omega)]
      refine iX6_correct_127 (c6_laysk hV (ix10 i j) (by omega)) rp_is (zpv ?_)
      refine sX6_correct_130 ?_
      refine iX6_correct_137 (c6_laysk hV (ix18 i j) (by omega)) rp_is (zpv ?_)
      refine sX6_correct_140 (zqo ?_)
      unfold oCor
      rw [if_neg hp, if_neg c_36, if_neg (fun h => h c_57), ei, ej, eo2]; rfl
    · exact zqo (by unfold oCor; rw [if_neg hp, if_neg c_36, if_pos c_57])
    · exact zqo (by unfold oCor; rw [if_neg hp, if_pos c_36])
end RS
