/-! ErrataPressModel: sums over a sheet, a house -/
section RM3
variable {g : ZG} {m : Nat} {R : Nat → Nat → Int32} {M : ZM} {s w h k least a b : Int32} {q : Nat → Int32}
theorem vp0 : vp_in 0 240 := by unfold vp_in; decide +kernel
theorem vp1 : vp_in 1 240 := by unfold vp_in; decide +kernel
theorem vp2 : vp_in 2 240 := by unfold vp_in; decide +kernel
theorem vpS {x y : Nat} (hs : s = nI x) (hx : x < 8) (hw : w = nI y) (hy : y < 26) : vp_in (22 + 26 * s + w) 240 := by
  subst hs; subst hw; exact vp_nI (ixS x y) (by omega) (by decide)
theorem vpH {x y : Nat} (hs : h = nI x) (hx : x < 4) (hw : w = nI y) (hy : y < 3) : vp_in (10 + 3 * h + w) 240 := by
  subst hs; subst hw; exact vp_nI (ixH x y) (by omega) (by decide)
/-- a sheet's number, and its length -/
def SOk (q : Nat → Int32) (s : Int32) : Prop := ∃ x z : Nat, x < 8 ∧ s = nI x ∧ z ≤ 8 ∧ fOf q s 1 = nI z
def HOk (h : Int32) : Prop := ∃ x : Nat, x < 4 ∧ h = nI x
theorem SOk.at (hs : SOk q s) {y : Nat} (hw : w = nI y) (hy : y < 26) : vp_in (22 + 26 * s + w) 240 := by
  obtain ⟨x, z, hx, hsx, -⟩ := hs
  exact vpS hsx hx hw hy
theorem HOk.at (hs : HOk h) {y : Nat} (hw : w = nI y) (hy : y < 3) : vp_in (10 + 3 * h + w) 240 := by
  obtain ⟨x, hx, hsx⟩ := hs
  exact vpH hsx hx hw hy
theorem HOk.a0 (hs : HOk h) : vp_in (10 + 3 * h + 0) 240 := hs.at (y := 0) rfl (by decide)
theorem HOk.a1 (hs : HOk h) : vp_in (10 + 3 * h + 1) 240 := hs.at (y := 1) rfl (by decide)
theorem HOk.a2 (hs : HOk h) : vp_in (10 + 3 * h + 2) 240 := hs.at (y := 2) rfl (by decide)
theorem SOk.a0 (hs : SOk q s) : vp_in (22 + 26 * s + 0) 240 := hs.at (y := 0) rfl (by decide)
theorem SOk.a1 (hs : SOk q s) : vp_in (22 + 26 * s + 1) 240 := hs.at (y := 1) rfl (by decide)
/-- a place's number within a sheet's eight -/
def KOk (k : Int32) : Prop := ∃ y : Nat, y < 8 ∧ k = nI y
theorem KOk.k18 (hk : KOk k) (hs : SOk q s) : vp_in (22 + 26 * s + (18 + k)) 240 := by
  obtain ⟨y, hy, rfl⟩ := hk
  exact hs.at (nI_add 18 y) (by omega)
theorem KOk.k10 (hk : KOk k) (hs : SOk q s) : vp_in (22 + 26 * s + (10 + k)) 240 := by
  obtain ⟨y, hy, rfl⟩ := hk
  exact hs.at (nI_add 10 y) (by omega)
theorem KOk.k2 (hk : KOk k) (hs : SOk q s) : vp_in (22 + 26 * s + (2 + k)) 240 := by
  obtain ⟨y, hy, rfl⟩ := hk
  exact hs.at (nI_add 2 y) (by omega)
theorem KOk.n {j z : Nat} (hj : j < z) (hz : z ≤ 8) : KOk (nI j) := ⟨j, by omega, rfl⟩
theorem zs_t {f : Nat → Int32} {j : Nat} (h : f j = 1) : zsum f j + 1 = zsum f (j + 1) := by show _ = _ + f j; rw [h]
theorem zs_f {f : Nat → Int32} {j : Nat} (h : f j = 0) : zsum f j + 0 = zsum f (j + 1) := by show _ = _ + f j; rw [h]
theorem zs_v {f : Nat → Int32} {j : Nat} {x : Int32} (h : f j = x) : zsum f j + x = zsum f (j + 1) := by show _ = _ + f j; rw [h]
theorem le_no {x : Int32} {z j : Nat} (h : x = nI z) (hz : z < 2 ^ 31) (hj : j < z) : ¬ x ≤ nI j := by rw [h]; exact nI_ge hj hz
theorem le_yes {x : Int32} {z : Nat} (h : x = nI z) : x ≤ nI z := by rw [h]; exact Int32.le_refl _
def fIsH (q : Nat → Int32) (h : Int32) : Int32 := bI (0 ≤ h ∧ h ≤ q 0 - 1)
theorem c6_isHouse (hV : zV g) : tX6_isHouse g [.ref m, .int h] (rput g m R M) nX6_isHouse 0 0 (zQp (rput g m R M) (.int (fIsH (R 0) h))) := by
  refine eX6_isHouse hV ?_
  repeat' (first
    | with_reducible exact vp0
    | refine sX6_isHouse_0 rp_o rfl rp_0 ?_ ?_
    | refine sX6_isHouse_13 (by first | exact Or.inl rfl | exact Or.inr rfl | exact bI_01 _ | assumption) ?_
    | refine iX6_isHouse_10 (c6_in hV) (zpr ?_)
    | with_reducible exact zqi rfl
    | fail)
  all_goals exact zqi rfl
def fIsS (q : Nat → Int32) (s : Int32) : Int32 := bI (0 ≤ s ∧ s ≤ q 1 - 1)
theorem c6_isSheet (hV : zV g) : tX6_isSheet g [.ref m, .int s] (rput g m R M) nX6_isSheet 0 0 (zQp (rput g m R M) (.int (fIsS (R 0) s))) := by
  refine eX6_isSheet hV ?_
  repeat' (first
    | with_reducible exact vp1
    | refine sX6_isSheet_0 rp_o rfl rp_0 ?_ ?_
    | refine sX6_isSheet_13 (by first | exact Or.inl rfl | exact Or.inr rfl | exact bI_01 _ | assumption) ?_
    | refine iX6_isSheet_10 (c6_in hV) (zpr ?_)
    | with_reducible exact zqi rfl
    | fail)
  all_goals exact zqi rfl
def fIsP (q : Nat → Int32) (s k : Int32) : Int32 := bI (fIsS q s = 1 ∧ 0 ≤ k ∧ k ≤ fOf q s 1 - 1)
theorem c6_isPlace (hV : zV g) (hb : fIsS (R 0) s = 1 → vp_in (22 + 26 * s + 1) 240) : tX6_isPlace g [.ref m, .int s, .int k] (rput g m R M) nX6_isPlace 0 0 (zQp (rput g m R M) (.int (fIsP (R 0) s k))) := by
  refine eX6_isPlace hV ?_
  have h01 : fIsS (R 0) s = 0 ∨ fIsS (R 0) s = 1 := bI_01 _
  repeat' (first
    | with_reducible exact hb (h01.resolve_left c_5)
    | refine sX6_isPlace_0 ?_
    | refine sX6_isPlace_5 (fun c_5 => ?_) (fun c_5 => ?_)
    | refine sX6_isPlace_8 ?_
    | refine sX6_isPlace_16 ?_
    | refine sX6_isPlace_21 (fun c_21 => ?_) (fun c_21 => ?_)
    | refine sX6_isPlace_24 ?_
    | refine sX6_isPlace_28 ?_
    | refine sX6_isPlace_29 (by first | exact Or.inl rfl | exact Or.inr rfl | exact bI_01 _ | assumption) ?_
    | refine iX6_isPlace_2 (c6_isSheet hV) rp_is (zpr ?_)
    | refine iX6_isPlace_13 (c6_of hV ?_) rp_is (zpr ?_)
    | refine iX6_isPlace_18 (c6_in hV) (zpr ?_)
    | with_reducible exact zqi rfl
    | fail)
  all_goals exact zqi (by unfold fIsP; unfold bI at *; grind)
def fMis (q : Nat → Int32) (s least : Int32) : Int32 := zsum (fun k => bI (¬ fOf q s (18 + nI k) < least)) (fOf q s 1).toNatClampNeg
theorem c6_misprints (hV : zV g) (hs : SOk (R 0) s) : tX6_misprints g [.ref m, .int s, .int least] (rput g m R M) nX6_misprints 0 0 (zQp (rput g m R M) (.int (fMis (R 0) s least))) := by
  have hs0 := hs
  obtain ⟨x, z, hx, hsx, hz, hzz⟩ := hs
  have ez : (fOf (R 0) s 1).toNatClampNeg = z := cl_nI hzz (by omega)
  unfold fMis
  rw [ez]
  refine eX6_misprints hV (sX6_misprints_0 ?_)
  refine zdown (P := fun j => Z g kX6_misprints _ _ 0 0 (rput g m R M) 5 [some (.ref m), some (.int s), some (.int least), some (.int (zsum (fun k => bI (¬ fOf (R 0) s (18 + nI k) < least)) j)), some (.int (nI j))] []) z ?_ (fun j hj ih => ?_) 0 (Nat.zero_le z)
  · refine sX6_misprints_5 ?_
    repeat' (first
      | with_reducible exact hs0.a1
      | with_reducible exact absurd (le_yes hzz) c_13
      | refine sX6_misprints_0 ?_
      | refine sX6_misprints_13 (fun c_13 => ?_) (fun c_13 => ?_)
      | refine sX6_misprints_16 ?_
      | refine sX6_misprints_24 (fun c_24 => ?_) (fun c_24 => ?_)
      | refine sX6_misprints_28 ?_
      | refine sX6_misprints_32 ?_
      | refine sX6_misprints_33 ?_
      | refine sX6_misprints_41 ?_
      | refine iX6_misprints_10 (c6_of hV ?_) rp_is (zpr ?_)
      | refine iX6_misprints_21 (c6_mark hV ?_) rp_is (zpr ?_)
      | with_reducible exact zqi rfl
      | fail)
  · refine sX6_misprints_5 ?_
    repeat' (first
      | with_reducible exact hs0.a1
      | with_reducible exact (KOk.n hj hz).k18 hs0
      | with_reducible exact absurd c_13 (le_no hzz (by omega) hj)
      | refine sX6_misprints_0 ?_
      | refine sX6_misprints_13 (fun c_13 => ?_) (fun c_13 => ?_)
      | refine sX6_misprints_16 ?_
      | refine sX6_misprints_24 (fun c_24 => ?_) (fun c_24 => ?_)
      | refine sX6_misprints_28 ?_
      | refine sX6_misprints_32 ?_
      | refine sX6_misprints_33 ?_
      | refine sX6_misprints_41 ?_
      | refine iX6_misprints_10 (c6_of hV ?_) rp_is (zpr ?_)
      | refine iX6_misprints_21 (c6_mark hV ?_) rp_is (zpr ?_)
      | with_reducible exact zqi rfl
      | fail)
    · rw [zs_f (by simp only [bI, c_24, not_true, if_false]), nI_1]; exact ih
    · rw [zs_t (by simp only [bI, c_24, not_false_eq_true, if_true]), nI_1]; exact ih
end RM3
