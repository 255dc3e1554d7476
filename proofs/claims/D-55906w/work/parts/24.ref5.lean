/-! ErrataPressModel: more sums, orders among houses and sheets -/
section RM5
variable {g : ZG} {m : Nat} {R : Nat → Nat → Int32} {M : ZM} {s w h k least a b o : Int32} {q : Nat → Int32}
def fShOf (q : Nat → Int32) (h : Int32) : Int32 := zsum (fun i => bI (fOf q (nI i) 0 = h)) (q 1).toNatClampNeg
theorem c6_sheetsOf (hV : zV g) (hg : ∃ S, GS (R 0) S) : tX6_sheetsOf g [.ref m, .int h] (rput g m R M) nX6_sheetsOf 0 0 (zQp (rput g m R M) (.int (fShOf (R 0) h))) := by
  obtain ⟨S, hg⟩ := hg
  unfold fShOf
  rw [hg.n]
  obtain ⟨h1, h2, h3⟩ := hg
  refine eX6_sheetsOf hV (sX6_sheetsOf_0 ?_)
  refine zdown (P := fun j => Z g kX6_sheetsOf _ _ 0 0 (rput g m R M) 4 [some (.ref m), some (.int h), some (.int (zsum (fun i => bI (fOf (R 0) (nI i) 0 = h)) j)), some (.int (nI j))] []) S ?_ (fun j hj ih => ?_) 0 (Nat.zero_le S)
  · refine sX6_sheetsOf_4 rp_o rfl rp_0 vp1 (fun c_5 => ?_) (fun c_5 => absurd (le_yes h1) c_5)
    repeat' (first
      | refine sX6_sheetsOf_0 ?_
      | refine sX6_sheetsOf_14 ?_
      | refine sX6_sheetsOf_21 (fun c_21 => ?_) (fun c_21 => ?_)
      | refine sX6_sheetsOf_25 ?_
      | refine sX6_sheetsOf_29 ?_
      | refine sX6_sheetsOf_30 ?_
      | refine sX6_sheetsOf_38 ?_
      | refine iX6_sheetsOf_18 (c6_of hV ?_) rp_is (zpr ?_)
      | with_reducible exact zqi rfl
      | fail)
  · refine sX6_sheetsOf_4 rp_o rfl rp_0 vp1 (fun c_5 => absurd c_5 (le_no h1 (by omega) hj)) (fun c_5 => ?_)
    repeat' (first
      | with_reducible exact (h3 j hj).a0
      | refine sX6_sheetsOf_0 ?_
      | refine sX6_sheetsOf_14 ?_
      | refine sX6_sheetsOf_21 (fun c_21 => ?_) (fun c_21 => ?_)
      | refine sX6_sheetsOf_25 ?_
      | refine sX6_sheetsOf_29 ?_
      | refine sX6_sheetsOf_30 ?_
      | refine sX6_sheetsOf_38 ?_
      | refine iX6_sheetsOf_18 (c6_of hV ?_) rp_is (zpr ?_)
      | with_reducible exact zqi rfl
      | fail)
    · rw [zs_f (bI_f c_21), nI_1]; exact ih
    · rw [zs_t (bI_t c_21), nI_1]; exact ih
def fBadOf (q : Nat → Int32) (s : Int32) : Int32 := zsum (fun j => fBad q s (nI j)) (fOf q s 1).toNatClampNeg
theorem c6_badOf (hV : zV g) (hs : SOk (R 0) s) : tX6_badOf g [.ref m, .int s] (rput g m R M) nX6_badOf 0 0 (zQp (rput g m R M) (.int (fBadOf (R 0) s))) := by
  have hs0 := hs
  obtain ⟨x, z, hx, hsx, hz, hzz⟩ := hs
  have ez : (fOf (R 0) s 1).toNatClampNeg = z := cl_nI hzz (by omega)
  unfold fBadOf
  rw [ez]
  refine eX6_badOf hV (sX6_badOf_0 ?_)
  refine zdown (P := fun j => Z g kX6_badOf _ _ 0 0 (rput g m R M) 4 [some (.ref m), some (.int s), some (.int (zsum (fun j => fBad (R 0) s (nI j)) j)), some (.int (nI j))] []) z ?_ (fun j hj ih => ?_) 0 (Nat.zero_le z)
  · refine sX6_badOf_4 ?_
    repeat' (first
      | with_reducible exact hs0.a1
      | with_reducible exact absurd (le_yes hzz) c_11
      | refine sX6_badOf_0 ?_
      | refine sX6_badOf_11 (fun c_11 => ?_) (fun c_11 => ?_)
      | refine sX6_badOf_14 ?_
      | refine sX6_badOf_21 ?_
      | refine sX6_badOf_29 ?_
      | refine iX6_badOf_8 (c6_of hV ?_) rp_is (zpr ?_)
      | refine iX6_badOf_18 (c6_bad hV ?_ ?_) rp_is (zpr ?_)
      | with_reducible exact zqi rfl
      | fail)
  · refine sX6_badOf_4 ?_
    repeat' (first
      | with_reducible exact hs0.a1
      | with_reducible exact (KOk.n hj hz).k10 hs0
      | with_reducible exact (KOk.n hj hz).k2 hs0
      | with_reducible exact absurd c_11 (le_no hzz (by omega) hj)
      | (rw [zs_v (by rfl), nI_1]; exact ih)
      | refine sX6_badOf_0 ?_
      | refine sX6_badOf_11 (fun c_11 => ?_) (fun c_11 => ?_)
      | refine sX6_badOf_14 ?_
      | refine sX6_badOf_21 ?_
      | refine sX6_badOf_29 ?_
      | refine iX6_badOf_8 (c6_of hV ?_) rp_is (zpr ?_)
      | refine iX6_badOf_18 (c6_bad hV ?_ ?_) rp_is (zpr ?_)
      | with_reducible exact zqi rfl
      | fail)
def fFinesOf (q : Nat → Int32) (s : Int32) : Int32 := zsum (fun j => fFine q s (nI j)) (fOf q s 1).toNatClampNeg
theorem c6_finesOf (hV : zV g) (hs : SOk (R 0) s) : tX6_finesOf g [.ref m, .int s] (rput g m R M) nX6_finesOf 0 0 (zQp (rput g m R M) (.int (fFinesOf (R 0) s))) := by
  have hs0 := hs
  obtain ⟨x, z, hx, hsx, hz, hzz⟩ := hs
  have ez : (fOf (R 0) s 1).toNatClampNeg = z := cl_nI hzz (by omega)
  unfold fFinesOf
  rw [ez]
  refine eX6_finesOf hV (sX6_finesOf_0 ?_)
  refine zdown (P := fun j => Z g kX6_finesOf _ _ 0 0 (rput g m R M) 4 [some (.ref m), some (.int s), some (.int (zsum (fun j => fFine (R 0) s (nI j)) j)), some (.int (nI j))] []) z ?_ (fun j hj ih => ?_) 0 (Nat.zero_le z)
  · refine sX6_finesOf_4 ?_
    repeat' (first
      | with_reducible exact hs0.a1
      | with_reducible exact absurd (le_yes hzz) c_11
      | refine sX6_finesOf_0 ?_
      | refine sX6_finesOf_11 (fun c_11 => ?_) (fun c_11 => ?_)
      | refine sX6_finesOf_14 ?_
      | refine sX6_finesOf_21 ?_
      | refine sX6_finesOf_29 ?_
      | refine iX6_finesOf_8 (c6_of hV ?_) rp_is (zpr ?_)
      | refine iX6_finesOf_18 (c6_fineAt hV ?_ ?_) rp_is (zpr ?_)
      | with_reducible exact zqi rfl
      | fail)
  · refine sX6_finesOf_4 ?_
    repeat' (first
      | with_reducible exact hs0.a1
      | with_reducible exact hs0
      | with_reducible exact KOk.n hj hz
      | with_reducible exact absurd c_11 (le_no hzz (by omega) hj)
      | (rw [zs_v (by rfl), nI_1]; exact ih)
      | refine sX6_finesOf_0 ?_
      | refine sX6_finesOf_11 (fun c_11 => ?_) (fun c_11 => ?_)
      | refine sX6_finesOf_14 ?_
      | refine sX6_finesOf_21 ?_
      | refine sX6_finesOf_29 ?_
      | refine iX6_finesOf_8 (c6_of hV ?_) rp_is (zpr ?_)
      | refine iX6_finesOf_18 (c6_fineAt hV ?_ ?_) rp_is (zpr ?_)
      | with_reducible exact zqi rfl
      | fail)
def fCanL (q : Nat → Int32) (s k : Int32) : Int32 := bI (fOf q s (18 + k) = 1 ∧ fAsh q (fOf q s 0) = 0 ∧ ¬ fBy q (fOf q s 0) 0 < fPrice q (fOf q s 0))
theorem c6_canLicense (hV : zV g) (hs : SOk (R 0) s) (hk : KOk k) (hh : HOk (fOf (R 0) s 0)) (hg : ∃ S, GS (R 0) S) : tX6_canLicense g [.ref m, .int s, .int k] (rput g m R M) nX6_canLicense 0 0 (zQp (rput g m R M) (.int (fCanL (R 0) s k))) := by
  refine eX6_canLicense hV ?_
  repeat' (first
    | with_reducible exact hs.a0
    | with_reducible exact hk.k18 hs
    | with_reducible exact hh
    | with_reducible exact hg
    | with_reducible exact hh.a0
    | refine sX6_canLicense_0 ?_
    | refine sX6_canLicense_6 ?_
    | refine sX6_canLicense_13 (fun c_13 => ?_) (fun c_13 => ?_)
    | refine sX6_canLicense_17 ?_
    | refine sX6_canLicense_22 (fun c_22 => ?_) (fun c_22 => ?_)
    | refine sX6_canLicense_25 ?_
    | refine sX6_canLicense_31 ?_
    | refine sX6_canLicense_36 (fun c_36 => ?_) (fun c_36 => ?_)
    | refine sX6_canLicense_39 ?_
    | refine sX6_canLicense_43 ?_
    | refine sX6_canLicense_44 (by first | exact Or.inl rfl | exact Or.inr rfl | exact bI_01 _ | assumption) ?_
    | refine iX6_canLicense_3 (c6_of hV ?_) rp_is (zpr ?_)
    | refine iX6_canLicense_10 (c6_mark hV ?_) rp_is (zpr ?_)
    | refine iX6_canLicense_19 (c6_isAshamed hV ?_) rp_is (zpr ?_)
    | refine iX6_canLicense_28 (c6_by hV ?_) rp_is (zpr ?_)
    | refine iX6_canLicense_33 (c6_price hV ?_) rp_is (zpr ?_)
    | with_reducible exact zqi rfl
    | fail)
  all_goals exact zqi (by unfold fCanL bI; grind)
def fFar (q : Nat → Int32) (s o : Int32) : Int32 := zsum (fun j => bI (¬ fOf q s (10 + nI j) = fOf q o (2 + nI j))) 8
theorem c6_far (hV : zV g) (hs : SOk (R 0) s) (ho : SOk (R 0) o) : tX6_far g [.ref m, .int s, .int o] (rput g m R M) nX6_far 0 0 (zQp (rput g m R M) (.int (fFar (R 0) s o))) := by
  unfold fFar
  refine eX6_far hV (sX6_far_0 ?_)
  refine zdown (P := fun j => Z g kX6_far _ _ 0 0 (rput g m R M) 5 [some (.ref m), some (.int s), some (.int o), some (.int (zsum (fun j => bI (¬ fOf (R 0) s (10 + nI j) = fOf (R 0) o (2 + nI j))) j)), some (.int (nI j))] []) 8 ?_ (fun j hj ih => ?_) 0 (Nat.zero_le 8)
  · refine sX6_far_5 (fun c_5 => ?_) (fun c_5 => absurd (Int32.le_refl _) c_5)
    repeat' (first
      | refine sX6_far_0 ?_
      | refine sX6_far_12 ?_
      | refine sX6_far_23 ?_
      | refine sX6_far_32 (fun c_32 => ?_) (fun c_32 => ?_)
      | refine sX6_far_35 ?_
      | refine sX6_far_39 ?_
      | refine sX6_far_40 ?_
      | refine sX6_far_48 ?_
      | refine iX6_far_20 (c6_of hV ?_) rp_is (zpr ?_)
      | refine iX6_far_29 (c6_of hV ?_) rp_is (zpr ?_)
      | with_reducible exact zqi rfl
      | fail)
  · refine sX6_far_5 (fun c_5 => absurd c_5 (nI_ge hj (by decide))) (fun c_5 => ?_)
    repeat' (first
      | with_reducible exact (KOk.n hj (Nat.le_refl 8)).k10 hs
      | with_reducible exact (KOk.n hj (Nat.le_refl 8)).k2 ho
      | refine sX6_far_0 ?_
      | refine sX6_far_12 ?_
      | refine sX6_far_23 ?_
      | refine sX6_far_32 (fun c_32 => ?_) (fun c_32 => ?_)
      | refine sX6_far_35 ?_
      | refine sX6_far_39 ?_
      | refine sX6_far_40 ?_
      | refine sX6_far_48 ?_
      | refine iX6_far_20 (c6_of hV ?_) rp_is (zpr ?_)
      | refine iX6_far_29 (c6_of hV ?_) rp_is (zpr ?_)
      | with_reducible exact zqi rfl
      | fail)
    · rw [zs_t (bI_t c_32), nI_1]; exact ih
    · rw [zs_f (bI_f (not_not_intro c_32)), nI_1]; exact ih
def fMoreA (q : Nat → Int32) (a b : Int32) : Int32 := if fBy q a 1 - fBy q b 1 = 0 then bI (fBy q a 0 - fBy q b 0 < 0 ∨ (fBy q a 0 - fBy q b 0 = 0 ∧ a < b)) else bI (0 < fBy q a 1 - fBy q b 1)
theorem c6_isMoreAshamed (hV : zV g) (ha : HOk a) (hb : HOk b) : tX6_isMoreAshamed g [.ref m, .int a, .int b] (rput g m R M) nX6_isMoreAshamed 0 0 (zQp (rput g m R M) (.int (fMoreA (R 0) a b))) := by
  refine eX6_isMoreAshamed hV ?_
  repeat' (first
    | with_reducible exact ha.a1
    | with_reducible exact hb.a1
    | with_reducible exact ha.a0
    | with_reducible exact hb.a0
    | refine sX6_isMoreAshamed_0 ?_
    | refine sX6_isMoreAshamed_6 ?_
    | refine sX6_isMoreAshamed_12 (fun c_12 => ?_) (fun c_12 => ?_)
    | refine sX6_isMoreAshamed_18 (fun c_18 => ?_) (fun c_18 => ?_)
    | refine sX6_isMoreAshamed_22 ?_
    | refine sX6_isMoreAshamed_26 ?_
    | refine sX6_isMoreAshamed_27 (by first | exact Or.inl rfl | exact Or.inr rfl | exact bI_01 _ | assumption) ?_
    | refine sX6_isMoreAshamed_28 ?_
    | refine sX6_isMoreAshamed_34 ?_
    | refine sX6_isMoreAshamed_40 (fun c_40 => ?_) (fun c_40 => ?_)
    | refine sX6_isMoreAshamed_48 (fun c_48 => ?_) (fun c_48 => ?_)
    | refine sX6_isMoreAshamed_53 (fun c_53 => ?_) (fun c_53 => ?_)
    | refine sX6_isMoreAshamed_58 ?_
    | refine sX6_isMoreAshamed_62 ?_
    | refine sX6_isMoreAshamed_63 (by first | exact Or.inl rfl | exact Or.inr rfl | exact bI_01 _ | assumption) ?_
    | refine iX6_isMoreAshamed_3 (c6_by hV ?_) rp_is (zpr ?_)
    | refine iX6_isMoreAshamed_9 (c6_by hV ?_) rp_is (zpr ?_)
    | refine iX6_isMoreAshamed_31 (c6_by hV ?_) rp_is (zpr ?_)
    | refine iX6_isMoreAshamed_37 (c6_by hV ?_) rp_is (zpr ?_)
    | with_reducible exact zqi rfl
    | fail)
  all_goals exact zqi (by unfold fMoreA bI; grind)
def fWorse (q : Nat → Int32) (a b : Int32) : Int32 := if fBadOf q a - fBadOf q b = 0 then bI (0 < fMis q a 1 - fMis q b 1 ∨ (fMis q a 1 - fMis q b 1 = 0 ∧ a < b)) else bI (0 < fBadOf q a - fBadOf q b)
theorem c6_isWorse (hV : zV g) (ha : SOk (R 0) a) (hb : SOk (R 0) b) : tX6_isWorse g [.ref m, .int a, .int b] (rput g m R M) nX6_isWorse 0 0 (zQp (rput g m R M) (.int (fWorse (R 0) a b))) := by
  refine eX6_isWorse hV ?_
  repeat' (first
    | with_reducible exact ha
    | with_reducible exact hb
    | refine sX6_isWorse_0 ?_
    | refine sX6_isWorse_5 ?_
    | refine sX6_isWorse_10 (fun c_10 => ?_) (fun c_10 => ?_)
    | refine sX6_isWorse_16 (fun c_16 => ?_) (fun c_16 => ?_)
    | refine sX6_isWorse_20 ?_
    | refine sX6_isWorse_24 ?_
    | refine sX6_isWorse_25 (by first | exact Or.inl rfl | exact Or.inr rfl | exact bI_01 _ | assumption) ?_
    | refine sX6_isWorse_26 ?_
    | refine sX6_isWorse_32 ?_
    | refine sX6_isWorse_38 (fun c_38 => ?_) (fun c_38 => ?_)
    | refine sX6_isWorse_46 (fun c_46 => ?_) (fun c_46 => ?_)
    | refine sX6_isWorse_51 (fun c_51 => ?_) (fun c_51 => ?_)
    | refine sX6_isWorse_56 ?_
    | refine sX6_isWorse_60 ?_
    | refine sX6_isWorse_61 (by first | exact Or.inl rfl | exact Or.inr rfl | exact bI_01 _ | assumption) ?_
    | refine iX6_isWorse_2 (c6_badOf hV ?_) rp_is (zpr ?_)
    | refine iX6_isWorse_7 (c6_badOf hV ?_) rp_is (zpr ?_)
    | refine iX6_isWorse_29 (c6_misprints hV ?_) rp_is (zpr ?_)
    | refine iX6_isWorse_35 (c6_misprints hV ?_) rp_is (zpr ?_)
    | with_reducible exact zqi rfl
    | fail)
  all_goals exact zqi (by unfold fWorse bI; grind)
def fAll (q : Nat → Int32) (least : Int32) : Int32 := zsum (fun i => fMis q (nI i) least) (q 1).toNatClampNeg
theorem c6_all (hV : zV g) (hg : ∃ S, GS (R 0) S) : tX6_all g [.ref m, .int least] (rput g m R M) nX6_all 0 0 (zQp (rput g m R M) (.int (fAll (R 0) least))) := by
  obtain ⟨S, hg⟩ := hg
  unfold fAll
  rw [hg.n]
  obtain ⟨h1, h2, h3⟩ := hg
  refine eX6_all hV (sX6_all_0 ?_)
  refine zdown (P := fun j => Z g kX6_all _ _ 0 0 (rput g m R M) 4 [some (.ref m), some (.int least), some (.int (zsum (fun i => fMis (R 0) (nI i) least) j)), some (.int (nI j))] []) S ?_ (fun j hj ih => ?_) 0 (Nat.zero_le S)
  · refine sX6_all_4 rp_o rfl rp_0 vp1 (fun c_5 => ?_) (fun c_5 => absurd (le_yes h1) c_5)
    repeat' (first
      | refine sX6_all_0 ?_
      | refine sX6_all_14 ?_
      | refine sX6_all_21 ?_
      | refine sX6_all_29 ?_
      | refine iX6_all_18 (c6_misprints hV ?_) rp_is (zpr ?_)
      | with_reducible exact zqi rfl
      | fail)
  · refine sX6_all_4 rp_o rfl rp_0 vp1 (fun c_5 => absurd c_5 (le_no h1 (by omega) hj)) (fun c_5 => ?_)
    repeat' (first
      | with_reducible exact h3 j hj
      | (rw [zs_v (by rfl), nI_1]; exact ih)
      | refine sX6_all_0 ?_
      | refine sX6_all_14 ?_
      | refine sX6_all_21 ?_
      | refine sX6_all_29 ?_
      | refine iX6_all_18 (c6_misprints hV ?_) rp_is (zpr ?_)
      | with_reducible exact zqi rfl
      | fail)
def GH (q : Nat → Int32) (n : Nat) : Prop := q 0 = nI n ∧ n ≤ 4
theorem GH.n {n : Nat} (h : GH q n) : (q 0).toNatClampNeg = n := cl_nI h.1 (by have := h.2; omega)
theorem HOk.n {j n : Nat} (hj : j < n) (hn : n ≤ 4) : HOk (nI j) := ⟨j, by omega, rfl⟩
def fSummed (q : Nat → Int32) (w : Int32) : Int32 := zsum (fun i => fBy q (nI i) w) (q 0).toNatClampNeg
theorem c6_summed (hV : zV g) (hg : ∃ n, GH (R 0) n) (hw : ∃ y, y < 3 ∧ w = nI y) : tX6_summed g [.ref m, .int w] (rput g m R M) nX6_summed 0 0 (zQp (rput g m R M) (.int (fSummed (R 0) w))) := by
  obtain ⟨S, hg⟩ := hg
  obtain ⟨y, hy, hw⟩ := hw
  unfold fSummed
  rw [hg.n]
  obtain ⟨h1, h2⟩ := hg
  refine eX6_summed hV (sX6_summed_0 ?_)
  refine zdown (P := fun j => Z g kX6_summed _ _ 0 0 (rput g m R M) 4 [some (.ref m), some (.int w), some (.int (zsum (fun i => fBy (R 0) (nI i) w) j)), some (.int (nI j))] []) S ?_ (fun j hj ih => ?_) 0 (Nat.zero_le S)
  · refine sX6_summed_4 rp_o rfl rp_0 vp0 (fun c_5 => ?_) (fun c_5 => absurd (le_yes h1) c_5)
    repeat' (first
      | refine sX6_summed_0 ?_
      | refine sX6_summed_14 ?_
      | refine sX6_summed_21 ?_
      | refine sX6_summed_29 ?_
      | refine iX6_summed_18 (c6_by hV ?_) rp_is (zpr ?_)
      | with_reducible exact zqi rfl
      | fail)
  · refine sX6_summed_4 rp_o rfl rp_0 vp0 (fun c_5 => absurd c_5 (le_no h1 (by omega) hj)) (fun c_5 => ?_)
    repeat' (first
      | with_reducible exact (HOk.n hj h2).at hw hy
      | (rw [zs_v (by rfl), nI_1]; exact ih)
      | refine sX6_summed_0 ?_
      | refine sX6_summed_14 ?_
      | refine sX6_summed_21 ?_
      | refine sX6_summed_29 ?_
      | refine iX6_summed_18 (c6_by hV ?_) rp_is (zpr ?_)
      | with_reducible exact zqi rfl
      | fail)
def fPrintable (q : Nat → Int32) : Int32 := zsum (fun i => fMis q (nI i) 2 - fMis q (nI i) 3) (q 1).toNatClampNeg
theorem c6_printable (hV : zV g) (hg : ∃ S, GS (R 0) S) : tX6_printable g [.ref m] (rput g m R M) nX6_printable 0 0 (zQp (rput g m R M) (.int (fPrintable (R 0)))) := by
  obtain ⟨S, hg⟩ := hg
  unfold fPrintable
  rw [hg.n]
  obtain ⟨h1, h2, h3⟩ := hg
  refine eX6_printable hV (sX6_printable_0 ?_)
  refine zdown (P := fun j => Z g kX6_printable _ _ 0 0 (rput g m R M) 4 [some (.ref m), some (.int (zsum (fun i => fMis (R 0) (nI i) 2 - fMis (R 0) (nI i) 3) j)), some (.int (nI j))] []) S ?_ (fun j hj ih => ?_) 0 (Nat.zero_le S)
  · refine sX6_printable_4 rp_o rfl rp_0 vp1 (fun c_5 => ?_) (fun c_5 => absurd (le_yes h1) c_5)
    repeat' (first
      | refine sX6_printable_0 ?_
      | refine sX6_printable_14 ?_
      | refine sX6_printable_21 ?_
      | refine sX6_printable_27 ?_
      | refine sX6_printable_36 ?_
      | refine iX6_printable_18 (c6_misprints hV ?_) rp_is (zpr ?_)
      | refine iX6_printable_24 (c6_misprints hV ?_) rp_is (zpr ?_)
      | with_reducible exact zqi rfl
      | fail)
  · refine sX6_printable_4 rp_o rfl rp_0 vp1 (fun c_5 => absurd c_5 (le_no h1 (by omega) hj)) (fun c_5 => ?_)
    repeat' (first
      | with_reducible exact h3 j hj
      | (rw [zs_v (by rfl), nI_1]; exact ih)
      | refine sX6_printable_0 ?_
      | refine sX6_printable_14 ?_
      | refine sX6_printable_21 ?_
      | refine sX6_printable_27 ?_
      | refine sX6_printable_36 ?_
      | refine iX6_printable_18 (c6_misprints hV ?_) rp_is (zpr ?_)
      | refine iX6_printable_24 (c6_misprints hV ?_) rp_is (zpr ?_)
      | with_reducible exact zqi rfl
      | fail)
end RM5
