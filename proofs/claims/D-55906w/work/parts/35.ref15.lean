/-! ErrataPressModel: wouldShame, wouldLaugh, nearest, bargain, ashamed, worst -/
section RW
variable {g : ZG} {m : Nat} {R K : Nat → Nat → Int32} {M : ZM} {s w h k x y c b : Int32} {n S r : Nat} {q f : Nat → Int32}
theorem Inv.sl (H : Inv q n S r) {i : Nat} (hi : i < S) : fOf q (nI i) 1 = nI (gz q i) ∧ gz q i ≤ 8 := ⟨(H.gzz hi).2.2.2, (H.gzz hi).2.2.1⟩
theorem le_nI {x : Int32} {z j : Nat} (h : x = nI z) (hz : z < 2 ^ 31) (hj : j < z) : ¬ x ≤ nI j := by rw [h]; exact nI_ge hj hz
theorem le_nI0 {x : Int32} {z : Nat} (h : x = nI z) : x ≤ nI z := by rw [h]; exact Int32.le_refl _
/-- how bad all is that is licensed -/
def fToP (q : Nat → Int32) (s : Int32) : Int32 := zsum (fun k => if fOf q s (18 + nI k) = 2 then fBad q s (nI k) else 0) (fOf q s 1).toNatClampNeg
def fShd (q : Nat → Int32) (h : Int32) : Int32 := fAtMost (fBy q h 1 + zsum (fun i => if fOf q (nI i) 0 = h then fToP q (nI i) else 0) (q 1).toNatClampNeg) 99
theorem c6_wouldShame (hV : zV g) (H : Inv (R 0) n S r) : tX6_wouldShame g [.ref m, .int h] (rput g m R M) nX6_wouldShame 0 0 (zQo g m M (if fIsH (R 0) h = 0 then (rFail R 1, 0) else (rFail R 0, fShd (R 0) h))) := by
  refine eX6_wouldShame hV ?_
  have hS : R 0 1 = nI S := H.2.2.1
  have hS8 := H.2.2.2.1
  by_cases hp : fIsH (R 0) h = 0
  · rw [if_pos hp]
    repeat' (first
      | exact absurd hp c_6
      | exact absurd c_17 (by decide)
      | refine sX6_wouldShame_0 ?_
      | refine sX6_wouldShame_6 (fun c_6 => ?_) (fun c_6 => ?_)
      | refine sX6_wouldShame_9 ?_
      | refine sX6_wouldShame_13 ?_
      | refine sX6_wouldShame_17 (fun c_17 => ?_) (fun c_17 => ?_)
      | refine sX6_wouldShame_20 ?_
      | refine sX6_wouldShame_22 ?_
      | refine sX6_wouldShame_28 ?_
      | refine sX6_wouldShame_41 ?_
      | refine sX6_wouldShame_52 (fun c_52 => ?_) (fun c_52 => ?_)
      | refine sX6_wouldShame_55 ?_
      | refine sX6_wouldShame_61 (fun c_61 => ?_) (fun c_61 => ?_)
      | refine sX6_wouldShame_65 ?_
      | refine sX6_wouldShame_73 (fun c_73 => ?_) (fun c_73 => ?_)
      | refine sX6_wouldShame_77 ?_
      | refine sX6_wouldShame_84 ?_
      | refine sX6_wouldShame_87 ?_
      | refine sX6_wouldShame_88 ?_
      | refine sX6_wouldShame_96 ?_
      | refine sX6_wouldShame_102 ?_
      | refine sX6_wouldShame_108 ?_
      | refine iX6_wouldShame_3 (c6_isHouse hV) rp_is (zpr ?_)
      | refine iX6_wouldShame_14 (c6_fails hV) rp_is (zpr ?_)
      | refine iX6_wouldShame_25 (c6_by hV ?_) rp_is (zpr ?_)
      | refine iX6_wouldShame_49 (c6_of hV ?_) rp_is (zpr ?_)
      | refine iX6_wouldShame_58 (c6_of hV ?_) rp_is (zpr ?_)
      | refine iX6_wouldShame_70 (c6_mark hV ?_) rp_is (zpr ?_)
      | refine iX6_wouldShame_81 (c6_bad hV ?_ ?_) rp_is (zpr ?_)
      | refine iX6_wouldShame_105 (c6_atMost hV) (zpr ?_)
      | with_reducible exact zqi rfl
      | simp only [rs_4, rs_5, rs_6, rs_7, rs_8, rs_9, rs_10, rs_11, rs_12, rs_14, rs_15, rs_17, rs_18, rs_20, rf_r, ra_0, ra_1, ra_2, ra_3, ra_4, ra_5, ra_6, rFail_0]
      | fail)
    all_goals exact zqo rfl
  · rw [if_neg hp]
    obtain ⟨i, hi, rfl⟩ := H.isH.mp (fIs01H.resolve_left hp)
    have w1 := (H.hok hi).a1
    repeat' (first
      | exact absurd c_6 hp
      | exact absurd c_17 (by decide)
      | with_reducible exact w1
      | refine sX6_wouldShame_0 ?_
      | refine sX6_wouldShame_6 (fun c_6 => ?_) (fun c_6 => ?_)
      | refine sX6_wouldShame_9 ?_
      | refine sX6_wouldShame_13 ?_
      | refine sX6_wouldShame_17 (fun c_17 => ?_) (fun c_17 => ?_)
      | refine sX6_wouldShame_20 ?_
      | refine sX6_wouldShame_22 ?_
      | refine sX6_wouldShame_28 ?_
      | refine sX6_wouldShame_41 ?_
      | refine sX6_wouldShame_52 (fun c_52 => ?_) (fun c_52 => ?_)
      | refine sX6_wouldShame_55 ?_
      | refine sX6_wouldShame_61 (fun c_61 => ?_) (fun c_61 => ?_)
      | refine sX6_wouldShame_65 ?_
      | refine sX6_wouldShame_73 (fun c_73 => ?_) (fun c_73 => ?_)
      | refine sX6_wouldShame_77 ?_
      | refine sX6_wouldShame_84 ?_
      | refine sX6_wouldShame_87 ?_
      | refine sX6_wouldShame_88 ?_
      | refine sX6_wouldShame_96 ?_
      | refine sX6_wouldShame_102 ?_
      | refine sX6_wouldShame_108 ?_
      | refine iX6_wouldShame_3 (c6_isHouse hV) rp_is (zpr ?_)
      | refine iX6_wouldShame_14 (c6_fails hV) rp_is (zpr ?_)
      | refine iX6_wouldShame_25 (c6_by hV ?_) rp_is (zpr ?_)
      | refine iX6_wouldShame_49 (c6_of hV ?_) rp_is (zpr ?_)
      | refine iX6_wouldShame_58 (c6_of hV ?_) rp_is (zpr ?_)
      | refine iX6_wouldShame_70 (c6_mark hV ?_) rp_is (zpr ?_)
      | refine iX6_wouldShame_81 (c6_bad hV ?_ ?_) rp_is (zpr ?_)
      | refine iX6_wouldShame_105 (c6_atMost hV) (zpr ?_)
      | with_reducible exact zqi rfl
      | simp only [rs_4, rs_5, rs_6, rs_7, rs_8, rs_9, rs_10, rs_11, rs_12, rs_14, rs_15, rs_17, rs_18, rs_20, rf_r, ra_0, ra_1, ra_2, ra_3, ra_4, ra_5, ra_6, rFail_0]
      | fail)
    have key := zdown (P := fun j => ∀ o, Z g kX6_wouldShame (zQo g m M (rFail R 0, fShd (R 0) (nI i))) nX6_wouldShame 0 0 (rput g m (rFail R 0) M) 31 [some (.ref m), some (.int (nI i)), some (.int (fBy (R 0) (nI i) 1 + zsum (fun j => if fOf (R 0) (nI j) 0 = nI i then fToP (R 0) (nI j) else 0) j)), some (.int (nI j)), o] []) S (fun o => ?_) (fun j hj ih o => ?_) 0 (Nat.zero_le _) none
    · rw [show zsum _ 0 = 0 from rfl, Int32.add_zero] at key
      exact key
    · refine sX6_wouldShame_31 rp_o rfl rp_0 vl1 (fun _ => ?_) (fun c => absurd (le_nI0 hS) c)
      refine sX6_wouldShame_102 ?_
      refine iX6_wouldShame_105 (c6_atMost hV) (zpr (sX6_wouldShame_108 (zqo ?_)))
      unfold fShd
      rw [hS, nI_clamp (by omega)]
    · obtain ⟨hl, hz⟩ := H.sl hj
      have hsO := H.sok hj
      refine sX6_wouldShame_31 rp_o rfl rp_0 vl1 (fun c => absurd c (le_nI hS (by omega) hj)) (fun _ => sX6_wouldShame_41 ?_)
      generalize hb : fBy (R 0) (nI i) 1 + zsum (fun j => if fOf (R 0) (nI j) 0 = nI i then fToP (R 0) (nI j) else 0) j = bs at *
      by_cases hown : fOf (R 0) (nI j) 0 = nI i
      · have key2 := zdown (P := fun k => Z g kX6_wouldShame (zQo g m M (rFail R 0, fShd (R 0) (nI i))) nX6_wouldShame 0 0 (rput g m (rFail R 0) M) 44 [some (.ref m), some (.int (nI i)), some (.int (bs + zsum (fun k => if fOf (R 0) (nI j) (18 + nI k) = 2 then fBad (R 0) (nI j) (nI k) else 0) k)), some (.int (nI j)), some (.int (nI k))] []) (gz (R 0) j) ?_ (fun k hk ihk => ?_) 0 (Nat.zero_le _)
        · rw [show zsum _ 0 = 0 from rfl, Int32.add_zero] at key2
          exact key2
        · refine sX6_wouldShame_44 (iX6_wouldShame_49 (c6_of hV hsO.a1) rp_is (zpr ?_))
          rw [rFail_0, hl]
          refine sX6_wouldShame_52 (fun _ => ?_) (fun c => absurd (Int32.le_refl _) c)
          refine sX6_wouldShame_96 ?_
          have e : bs + zsum (fun k => if fOf (R 0) (nI j) (18 + nI k) = 2 then fBad (R 0) (nI j) (nI k) else 0) (gz (R 0) j) = fBy (R 0) (nI i) 1 + zsum (fun j => if fOf (R 0) (nI j) 0 = nI i then fToP (R 0) (nI j) else 0) (j + 1) := by
            show _ = _ + (_ + (if fOf (R 0) (nI j) 0 = nI i then fToP (R 0) (nI j) else 0))
            rw [if_pos hown, ← hb, Int32.add_assoc]
            unfold fToP
            rw [hl, nI_clamp (by omega)]
          rw [e, nI_1]
          exact ih _
        · have hkO : KOk (nI k) := ⟨k, by omega, rfl⟩
          refine sX6_wouldShame_44 (iX6_wouldShame_49 (c6_of hV hsO.a1) rp_is (zpr ?_))
          rw [rFail_0, hl]
          refine sX6_wouldShame_52 (fun c => absurd c (nI_ge hk (by omega))) (fun _ => ?_)
          refine sX6_wouldShame_55 (iX6_wouldShame_58 (c6_of hV hsO.a0) rp_is (zpr ?_))
          rw [rFail_0]
          refine sX6_wouldShame_61 (fun c => absurd hown c) (fun _ => ?_)
          refine sX6_wouldShame_65 (iX6_wouldShame_70 (c6_mark hV (hkO.k18 hsO)) rp_is (zpr ?_))
          rw [rFail_0]
          have fin : ∀ v, v = (if fOf (R 0) (nI j) (18 + nI k) = 2 then fBad (R 0) (nI j) (nI k) else 0) → Z g kX6_wouldShame (zQo g m M (rFail R 0, fShd (R 0) (nI i))) nX6_wouldShame 0 0 (rput g m (rFail R 0) M) 88 [some (.ref m), some (.int (nI i)), some (.int (bs + zsum (fun k => if fOf (R 0) (nI j) (18 + nI k) = 2 then fBad (R 0) (nI j) (nI k) else 0) k)), some (.int (nI j)), some (.int (nI k))] [.int v, .int (bs + zsum (fun k => if fOf (R 0) (nI j) (18 + nI k) = 2 then fBad (R 0) (nI j) (nI k) else 0) k)] := by
            rintro v rfl
            refine sX6_wouldShame_88 ?_
            rw [nI_1, Int32.add_assoc]
            exact ihk
          refine sX6_wouldShame_73 (fun c => sX6_wouldShame_87 (fin _ (if_neg c).symm)) (fun c => ?_)
          refine sX6_wouldShame_77 (iX6_wouldShame_81 (c6_bad hV (hkO.k10 hsO) (hkO.k2 hsO)) rp_is (zpr ?_))
          rw [rFail_0]
          exact sX6_wouldShame_84 (fin _ (if_pos c).symm)
      · have hnext : Z g kX6_wouldShame (zQo g m M (rFail R 0, fShd (R 0) (nI i))) nX6_wouldShame 0 0 (rput g m (rFail R 0) M) 96 [some (.ref m), some (.int (nI i)), some (.int bs), some (.int (nI j)), some (.int 0)] [] := by
          refine sX6_wouldShame_96 ?_
          have e : bs = fBy (R 0) (nI i) 1 + zsum (fun j => if fOf (R 0) (nI j) 0 = nI i then fToP (R 0) (nI j) else 0) (j + 1) := by
            show _ = _ + (_ + (if fOf (R 0) (nI j) 0 = nI i then fToP (R 0) (nI j) else 0))
            rw [if_neg hown, ← hb, Int32.add_zero]
          rw [e, nI_1]
          exact ih _
        refine sX6_wouldShame_44 (iX6_wouldShame_49 (c6_of hV hsO.a1) rp_is (zpr ?_))
        refine sX6_wouldShame_52 (fun c => hnext) (fun _ => ?_)
        refine sX6_wouldShame_55 (iX6_wouldShame_58 (c6_of hV hsO.a0) rp_is (zpr ?_))
        rw [rFail_0]
        exact sX6_wouldShame_61 (fun _ => hnext) (fun c => absurd c hown)
def fWL1 (q : Nat → Int32) (s : Int32) (k : Nat) : Int32 := if fOf q s (18 + nI k) = 2 then fLaughs q s (nI k) else 0
def fWL (q : Nat → Int32) : Int32 := zsum (fun i => zsum (fWL1 q (nI i)) (fOf q (nI i) 1).toNatClampNeg) (q 1).toNatClampNeg
def oWL (R : Nat → Nat → Int32) : (Nat → Nat → Int32) × Int32 := (ru R 7 8 0, fWL (R 0))
theorem c6_wouldLaugh (hV : zV g) (H : Inv (R 0) n S r) : tX6_wouldLaugh g [.ref m, .int b] (rput g m R M) nX6_wouldLaugh 0 0 (zQo g m M (oWL R)) := by
  refine eX6_wouldLaugh hV ?_
  have hS : R 0 1 = nI S := H.2.2.1
  have hS8 := H.2.2.2.1
  refine sX6_wouldLaugh_0 rp_o (Nat.le_of_ble_eq_true rfl) ?_
  rw [rs_8, rf_r]
  have hr0 : (ru R 7 8 0) 0 = R 0 := rfl
  have key := zdown (P := fun j => ∀ o, Z g kX6_wouldLaugh (zQo g m M (oWL R)) nX6_wouldLaugh 0 0 (rput g m (ru R 7 8 0) M) 9 [some (.ref m), some (.int b), some (.int (zsum (fun i => zsum (fWL1 (R 0) (nI i)) (fOf (R 0) (nI i) 1).toNatClampNeg) j)), some (.int (nI j)), o] []) S (fun o => ?_) (fun j hj ih o => ?_) 0 (Nat.zero_le _)
  · exact key _
  · refine sX6_wouldLaugh_9 rp_o rfl rp_0 vl1 (fun _ => ?_) (fun c => absurd (le_nI0 hS) c)
    refine sX6_wouldLaugh_70 (zqo ?_)
    unfold oWL fWL
    rw [hS, nI_clamp (by omega)]
  · obtain ⟨hl, hz⟩ := H.sl hj
    have hsO := H.sok hj
    refine sX6_wouldLaugh_9 rp_o rfl rp_0 vl1 (fun c => absurd c (le_nI hS (by omega) hj)) (fun _ => sX6_wouldLaugh_19 ?_)
    generalize hb : zsum (fun i => zsum (fWL1 (R 0) (nI i)) (fOf (R 0) (nI i) 1).toNatClampNeg) j = bs at *
    have key2 := zdown (P := fun k => Z g kX6_wouldLaugh (zQo g m M (oWL R)) nX6_wouldLaugh 0 0 (rput g m (ru R 7 8 0) M) 22 [some (.ref m), some (.int b), some (.int (bs + zsum (fWL1 (R 0) (nI j)) k)), some (.int (nI j)), some (.int (nI k))] []) (gz (R 0) j) ?_ (fun k hk ihk => ?_) 0 (Nat.zero_le _)
    · rw [show zsum _ 0 = 0 from rfl, Int32.add_zero] at key2
      exact key2
    · refine sX6_wouldLaugh_22 (iX6_wouldLaugh_27 (c6_of hV hsO.a1) rp_is (zpr ?_))
      rw [hr0, hl]
      refine sX6_wouldLaugh_30 (fun _ => ?_) (fun c => absurd (Int32.le_refl _) c)
      refine sX6_wouldLaugh_64 ?_
      have e : bs + zsum (fWL1 (R 0) (nI j)) (gz (R 0) j) = zsum (fun i => zsum (fWL1 (R 0) (nI i)) (fOf (R 0) (nI i) 1).toNatClampNeg) (j + 1) := by
        show _ = _ + zsum (fWL1 (R 0) (nI j)) (fOf (R 0) (nI j) 1).toNatClampNeg
        rw [hl, nI_clamp (by omega), hb]
      rw [e, nI_1]
      exact ih _
    · have hkO : KOk (nI k) := ⟨k, by omega, rfl⟩
      refine sX6_wouldLaugh_22 (iX6_wouldLaugh_27 (c6_of hV hsO.a1) rp_is (zpr ?_))
      rw [hr0, hl]
      refine sX6_wouldLaugh_30 (fun c => absurd c (nI_ge hk (by omega))) (fun _ => ?_)
      refine sX6_wouldLaugh_33 (iX6_wouldLaugh_38 (c6_mark hV (hkO.k18 hsO)) rp_is (zpr ?_))
      rw [hr0]
      have fin : ∀ v, v = fWL1 (R 0) (nI j) k → Z g kX6_wouldLaugh (zQo g m M (oWL R)) nX6_wouldLaugh 0 0 (rput g m (ru R 7 8 0) M) 56 [some (.ref m), some (.int b), some (.int (bs + zsum (fWL1 (R 0) (nI j)) k)), some (.int (nI j)), some (.int (nI k))] [.int v, .int (bs + zsum (fWL1 (R 0) (nI j)) k)] := by
        rintro v rfl
        refine sX6_wouldLaugh_56 ?_
        rw [nI_1, Int32.add_assoc]
        exact ihk
      refine sX6_wouldLaugh_41 (fun c => sX6_wouldLaugh_55 (fin _ (if_neg c).symm)) (fun c => ?_)
      refine sX6_wouldLaugh_45 (iX6_wouldLaugh_49 (c6_laughs hV hsO hkO H.gr) rp_is (zpr ?_))
      rw [hr0]
      exact sX6_wouldLaugh_52 (fin _ (if_pos c).symm)
def nr (q : Nat → Int32) (s : Int32) : Nat → Nat
  | 0 => 0
  | i + 1 => if fFar q s (nI (i + 1)) < fFar q s (nI (nr q s i)) then i + 1 else nr q s i
theorem nr_le : ∀ i, nr q s i ≤ i := by
  intro i
  induction i with
  | zero => exact Nat.le_refl _
  | succ i ih => unfold nr; split <;> omega
def oNear (R : Nat → Nat → Int32) (S : Nat) (s : Int32) : (Nat → Nat → Int32) × Int32 := if fIsS (R 0) s = 0 then (rFail R 1, 0) else (rFail R 0, nI (nr (R 0) s (S - 1)))
theorem c6_nearest (hV : zV g) (H : Inv (R 0) n S r) : tX6_nearest g [.ref m, .int s] (rput g m R M) nX6_nearest 0 0 (zQo g m M (oNear R S s)) := by
  refine eX6_nearest hV ?_
  have hS : R 0 1 = nI S := H.2.2.1
  have hS8 := H.2.2.2.1
  by_cases hp : fIsS (R 0) s = 0
  · have e : oNear R S s = (rFail R 1, 0) := if_pos hp
    repeat' (first
      | exact absurd hp c_6
      | exact absurd c_17 (by decide)
      | refine sX6_nearest_0 ?_
      | refine sX6_nearest_6 (fun c_6 => ?_) (fun c_6 => ?_)
      | refine sX6_nearest_9 ?_
      | refine sX6_nearest_13 ?_
      | refine sX6_nearest_17 (fun c_17 => ?_) (fun c_17 => ?_)
      | refine sX6_nearest_20 ?_
      | refine sX6_nearest_22 ?_
      | refine sX6_nearest_36 ?_
      | refine sX6_nearest_42 ?_
      | refine sX6_nearest_48 (fun c_48 => ?_) (fun c_48 => ?_)
      | refine sX6_nearest_51 ?_
      | refine sX6_nearest_53 ?_
      | refine sX6_nearest_59 ?_
      | refine iX6_nearest_3 (c6_isSheet hV) rp_is (zpr ?_)
      | refine iX6_nearest_14 (c6_fails hV) rp_is (zpr ?_)
      | refine iX6_nearest_39 (c6_far hV ?_ ?_) rp_is (zpr ?_)
      | refine iX6_nearest_45 (c6_far hV ?_ ?_) rp_is (zpr ?_)
      | with_reducible exact zqi rfl
      | simp only [rs_4, rs_5, rs_6, rs_7, rs_8, rs_9, rs_10, rs_11, rs_12, rs_14, rs_15, rs_17, rs_18, rs_20, rf_r, ra_0, ra_1, ra_2, ra_3, ra_4, ra_5, ra_6, rFail_0]
      | fail)
    all_goals exact zqo e
  · have e : oNear R S s = (rFail R 0, nI (nr (R 0) s (S - 1))) := if_neg hp
    obtain ⟨i, hi, rfl⟩ := H.isS.mp (fIs01S.resolve_left hp)
    repeat' (first
      | exact absurd c_6 hp
      | exact absurd c_17 (by decide)
      | refine sX6_nearest_0 ?_
      | refine sX6_nearest_6 (fun c_6 => ?_) (fun c_6 => ?_)
      | refine sX6_nearest_9 ?_
      | refine sX6_nearest_13 ?_
      | refine sX6_nearest_17 (fun c_17 => ?_) (fun c_17 => ?_)
      | refine sX6_nearest_20 ?_
      | refine sX6_nearest_22 ?_
      | refine sX6_nearest_36 ?_
      | refine sX6_nearest_42 ?_
      | refine sX6_nearest_48 (fun c_48 => ?_) (fun c_48 => ?_)
      | refine sX6_nearest_51 ?_
      | refine sX6_nearest_53 ?_
      | refine sX6_nearest_59 ?_
      | refine iX6_nearest_3 (c6_isSheet hV) rp_is (zpr ?_)
      | refine iX6_nearest_14 (c6_fails hV) rp_is (zpr ?_)
      | refine iX6_nearest_39 (c6_far hV ?_ ?_) rp_is (zpr ?_)
      | refine iX6_nearest_45 (c6_far hV ?_ ?_) rp_is (zpr ?_)
      | with_reducible exact zqi rfl
      | simp only [rs_4, rs_5, rs_6, rs_7, rs_8, rs_9, rs_10, rs_11, rs_12, rs_14, rs_15, rs_17, rs_18, rs_20, rf_r, ra_0, ra_1, ra_2, ra_3, ra_4, ra_5, ra_6, rFail_0]
      | fail)
    have key := zdown (P := fun j => Z g kX6_nearest (zQo g m M (oNear R S (nI i))) nX6_nearest 0 0 (rput g m (rFail R 0) M) 26 [some (.ref m), some (.int (nI i)), some (.int (nI (nr (R 0) (nI i) j))), some (.int (nI (j + 1)))] []) (S - 1) ?_ (fun j hj ih => ?_) 0 (Nat.zero_le _)
    · exact key
    · rw [show S - 1 + 1 = S by omega]
      refine sX6_nearest_26 rp_o rfl rp_0 vl1 (fun _ => sX6_nearest_59 (zqo e)) (fun c => absurd (le_nI0 hS) c)
    · refine sX6_nearest_26 rp_o rfl rp_0 vl1 (fun c => absurd c (le_nI hS (by omega) (by omega))) (fun _ => ?_)
      have hb := nr_le (q := R 0) (s := nI i) j
      refine sX6_nearest_36 (iX6_nearest_39 (c6_far hV (H.sok hi) (H.sok (by omega))) rp_is (zpr ?_))
      refine sX6_nearest_42 (iX6_nearest_45 (c6_far hV (H.sok hi) (H.sok (by omega))) rp_is (zpr ?_))
      simp only [rFail_0]
      unfold nr at ih
      refine sX6_nearest_48 (fun c => ?_) (fun c => ?_)
      · rw [if_neg (Int32.not_lt.mpr c)] at ih
        refine sX6_nearest_53 ?_
        rw [nI_1]
        exact ih
      · rw [if_pos (Int32.not_le.mp c)] at ih
        refine sX6_nearest_51 (sX6_nearest_53 ?_)
        rw [nI_1]
        exact ih
end RW
