/-! ErrataPressModel: sums over all sheets, fines, laughs, orders -/
section RM4
variable {g : ZG} {m : Nat} {R : Nat → Nat → Int32} {M : ZM} {s w h k least a b : Int32} {q : Nat → Int32}
/-- all sheets in use -/
def GS (q : Nat → Int32) (S : Nat) : Prop := q 1 = nI S ∧ S ≤ 8 ∧ ∀ i, i < S → SOk q (nI i)
theorem GS.n {S : Nat} (h : GS q S) : (q 1).toNatClampNeg = S := cl_nI h.1 (by have := h.2.1; omega)
def fOfH (q : Nat → Int32) (h least : Int32) : Int32 := zsum (fun i => if fOf q (nI i) 0 = h then fMis q (nI i) least else 0) (q 1).toNatClampNeg
theorem c6_ofHouse (hV : zV g) (hg : ∃ S, GS (R 0) S) : tX6_ofHouse g [.ref m, .int h, .int least] (rput g m R M) nX6_ofHouse 0 0 (zQp (rput g m R M) (.int (fOfH (R 0) h least))) := by
  obtain ⟨S, hg⟩ := hg
  unfold fOfH
  rw [hg.n]
  obtain ⟨h1, h2, h3⟩ := hg
  refine eX6_ofHouse hV (sX6_ofHouse_0 ?_)
  refine zdown (P := fun j => Z g kX6_ofHouse _ _ 0 0 (rput g m R M) 5 [some (.ref m), some (.int h), some (.int least), some (.int (zsum (fun i => if fOf (R 0) (nI i) 0 = h then fMis (R 0) (nI i) least else 0) j)), some (.int (nI j))] []) S ?_ (fun j hj ih => ?_) 0 (Nat.zero_le S)
  · refine sX6_ofHouse_5 rp_o rfl rp_0 vp1 (fun c_5 => ?_) (fun c_5 => absurd (le_yes h1) c_5)
    repeat' (first
      | refine sX6_ofHouse_0 ?_
      | refine sX6_ofHouse_16 ?_
      | refine sX6_ofHouse_24 (fun c_24 => ?_) (fun c_24 => ?_)
      | refine sX6_ofHouse_28 ?_
      | refine sX6_ofHouse_35 ?_
      | refine sX6_ofHouse_38 ?_
      | refine sX6_ofHouse_39 ?_
      | refine sX6_ofHouse_47 ?_
      | refine iX6_ofHouse_21 (c6_of hV ?_) rp_is (zpr ?_)
      | refine iX6_ofHouse_32 (c6_misprints hV ?_) rp_is (zpr ?_)
      | with_reducible exact zqi rfl
      | fail)
  · refine sX6_ofHouse_5 rp_o rfl rp_0 vp1 (fun c_5 => absurd c_5 (le_no h1 (by omega) hj)) (fun c_5 => ?_)
    repeat' (first
      | with_reducible exact (h3 j hj).a0
      | with_reducible exact h3 j hj
      | refine sX6_ofHouse_0 ?_
      | refine sX6_ofHouse_16 ?_
      | refine sX6_ofHouse_24 (fun c_24 => ?_) (fun c_24 => ?_)
      | refine sX6_ofHouse_28 ?_
      | refine sX6_ofHouse_35 ?_
      | refine sX6_ofHouse_38 ?_
      | refine sX6_ofHouse_39 ?_
      | refine sX6_ofHouse_47 ?_
      | refine iX6_ofHouse_21 (c6_of hV ?_) rp_is (zpr ?_)
      | refine iX6_ofHouse_32 (c6_misprints hV ?_) rp_is (zpr ?_)
      | with_reducible exact zqi rfl
      | fail)
    · rw [zs_f (by simp only [c_24, if_false]), nI_1]; exact ih
    · rw [zs_v (by simp only [c_24, if_true]), nI_1]; exact ih
def fPrice (q : Nat → Int32) (h : Int32) : Int32 := 2 + fOfH q h 2
theorem c6_price (hV : zV g) (hg : ∃ S, GS (R 0) S) : tX6_price g [.ref m, .int h] (rput g m R M) nX6_price 0 0 (zQp (rput g m R M) (.int (fPrice (R 0) h))) := by
  refine eX6_price hV ?_
  repeat' (first
    | with_reducible exact hg
    | refine sX6_price_0 ?_
    | refine sX6_price_7 ?_
    | refine iX6_price_4 (c6_ofHouse hV ?_) rp_is (zpr ?_)
    | with_reducible exact zqi rfl
    | fail)
  all_goals exact zqi rfl
def fAsh (q : Nat → Int32) (h : Int32) : Int32 := bI (¬ fBy q h 1 ≤ 20)
theorem c6_isAshamed (hV : zV g) (hh : HOk h) : tX6_isAshamed g [.ref m, .int h] (rput g m R M) nX6_isAshamed 0 0 (zQp (rput g m R M) (.int (fAsh (R 0) h))) := by
  refine eX6_isAshamed hV ?_
  repeat' (first
    | with_reducible exact hh.a1
    | refine sX6_isAshamed_0 ?_
    | refine sX6_isAshamed_6 (fun c_6 => ?_) (fun c_6 => ?_)
    | refine sX6_isAshamed_11 ?_
    | refine sX6_isAshamed_15 ?_
    | refine sX6_isAshamed_16 (by first | exact Or.inl rfl | exact Or.inr rfl | exact bI_01 _ | assumption) ?_
    | refine iX6_isAshamed_3 (c6_by hV ?_) rp_is (zpr ?_)
    | with_reducible exact zqi rfl
    | fail)
  all_goals exact zqi (by unfold fAsh bI; simp [c_6])
def fFine (q : Nat → Int32) (s k : Int32) : Int32 := if fOf q s (18 + k) = 0 then 0 else (1 + fBad q s k + (if fOf q s (18 + k) ≤ 1 then 0 else 2)) * (if fOf q s (18 + k) = 3 then 2 else 1)
theorem c6_fineAt (hV : zV g) (hs : SOk (R 0) s) (hk : KOk k) : tX6_fineAt g [.ref m, .int s, .int k] (rput g m R M) nX6_fineAt 0 0 (zQp (rput g m R M) (.int (fFine (R 0) s k))) := by
  refine eX6_fineAt hV ?_
  repeat' (first
    | with_reducible exact hk.k18 hs
    | with_reducible exact hk.k10 hs
    | with_reducible exact hk.k2 hs
    | refine sX6_fineAt_0 ?_
    | refine sX6_fineAt_6 (fun c_6 => ?_) (fun c_6 => ?_)
    | refine sX6_fineAt_11 ?_
    | refine sX6_fineAt_15 ?_
    | refine sX6_fineAt_22 (fun c_22 => ?_) (fun c_22 => ?_)
    | refine sX6_fineAt_28 ?_
    | refine sX6_fineAt_32 ?_
    | refine sX6_fineAt_33 (fun c_33 => ?_) (fun c_33 => ?_)
    | refine sX6_fineAt_39 ?_
    | refine sX6_fineAt_43 ?_
    | refine sX6_fineAt_44 ?_
    | refine sX6_fineAt_45 ?_
    | refine iX6_fineAt_3 (c6_mark hV ?_) rp_is (zpr ?_)
    | refine iX6_fineAt_19 (c6_bad hV ?_ ?_) rp_is (zpr ?_)
    | with_reducible exact zqi rfl
    | fail)
  all_goals exact zqi (by unfold fFine; grind)
def fLaughs1 (q : Nat → Int32) (s k : Int32) (j : Nat) : Int32 := if (if q (230 + 2 * nI j : Int32).toNatClampNeg = 0 then fOf q s (10 + k) = q (230 + 2 * nI j + 1 : Int32).toNatClampNeg else ¬ fBad q s k < q (230 + 2 * nI j + 1 : Int32).toNatClampNeg) then 1 <<< (nI j &&& 31) else 0
def zor (f : Nat → Int32) : Nat → Int32
  | 0 => 0
  | n + 1 => zor f n ||| f n
def fLs (q : Nat → Int32) (s k : Int32) : Int32 := if fOf q s (18 + k) ≤ 0 then 0 else zor (fLaughs1 q s k) (q 2).toNatClampNeg
def GR (q : Nat → Int32) : Prop := ∃ r : Nat, r ≤ 5 ∧ q 2 = nI r
theorem ixR (j : Nat) : (230 + 2 * nI j : Int32) = nI (230 + 2 * j) := by
  rw [show (230 : Int32) = nI 230 from rfl, show (2 : Int32) = nI 2 from rfl, pk_mul, nI_add]
theorem ixR1 (j : Nat) : (230 + 2 * nI j + 1 : Int32) = nI (230 + 2 * j + 1) := by rw [ixR, nI_1]
theorem zo_v {f : Nat → Int32} {j : Nat} {x : Int32} (h : f j = x) : zor f j ||| x = zor f (j + 1) := by show _ = _ ||| f j; rw [h]
theorem c6_laughers (hV : zV g) (hs : SOk (R 0) s) (hk : KOk k) (hr : GR (R 0)) : tX6_laughers g [.ref m, .int s, .int k] (rput g m R M) nX6_laughers 0 0 (zQp (rput g m R M) (.int (fLs (R 0) s k))) := by
  obtain ⟨r, hr5, hr2⟩ := hr
  have hrn : (R 0 2).toNatClampNeg = r := cl_nI hr2 (by omega)
  unfold fLs
  rw [hrn]
  refine eX6_laughers hV (sX6_laughers_0 ?_)
  by_cases hm : fOf (R 0) s (18 + k) ≤ 0
  · rw [if_pos hm]
    refine sX6_laughers_5 rp_o rfl rp_0 vp2 (fun c_5 => ?_) (fun c_5 => ?_)
    · repeat' (first
        | refine sX6_laughers_0 ?_
        | refine sX6_laughers_16 ?_
        | refine sX6_laughers_22 (fun c_22 => ?_) (fun c_22 => ?_)
        | refine sX6_laughers_25 rp_o rfl rp_0 ?_ ?_ (fun c_25 => ?_) (fun c_25 => ?_)
        | refine sX6_laughers_58 ?_
        | refine sX6_laughers_67 (fun c_67 => ?_) (fun c_67 => ?_)
        | refine sX6_laughers_72 ?_
        | refine sX6_laughers_76 ?_
        | refine sX6_laughers_80 ?_
        | refine sX6_laughers_86 (fun c_86 => ?_) (fun c_86 => ?_)
        | refine sX6_laughers_91 ?_
        | refine sX6_laughers_95 ?_
        | refine sX6_laughers_96 (fun c_96 => ?_) (fun c_96 => ?_)
        | refine sX6_laughers_104 ?_
        | refine sX6_laughers_111 ?_
        | refine sX6_laughers_112 ?_
        | refine sX6_laughers_120 ?_
        | refine iX6_laughers_19 (c6_mark hV ?_) rp_is (zpr ?_)
        | refine iX6_laughers_64 (c6_of hV ?_) rp_is (zpr ?_)
        | refine iX6_laughers_83 (c6_bad hV ?_ ?_) rp_is (zpr ?_)
        | with_reducible exact zqi rfl
        | fail)
    · repeat' (first
        | with_reducible exact hk.k18 hs
        | with_reducible exact absurd hm c_22
        | refine sX6_laughers_0 ?_
        | refine sX6_laughers_16 ?_
        | refine sX6_laughers_22 (fun c_22 => ?_) (fun c_22 => ?_)
        | refine sX6_laughers_25 rp_o rfl rp_0 ?_ ?_ (fun c_25 => ?_) (fun c_25 => ?_)
        | refine sX6_laughers_58 ?_
        | refine sX6_laughers_67 (fun c_67 => ?_) (fun c_67 => ?_)
        | refine sX6_laughers_72 ?_
        | refine sX6_laughers_76 ?_
        | refine sX6_laughers_80 ?_
        | refine sX6_laughers_86 (fun c_86 => ?_) (fun c_86 => ?_)
        | refine sX6_laughers_91 ?_
        | refine sX6_laughers_95 ?_
        | refine sX6_laughers_96 (fun c_96 => ?_) (fun c_96 => ?_)
        | refine sX6_laughers_104 ?_
        | refine sX6_laughers_111 ?_
        | refine sX6_laughers_112 ?_
        | refine sX6_laughers_120 ?_
        | refine iX6_laughers_19 (c6_mark hV ?_) rp_is (zpr ?_)
        | refine iX6_laughers_64 (c6_of hV ?_) rp_is (zpr ?_)
        | refine iX6_laughers_83 (c6_bad hV ?_ ?_) rp_is (zpr ?_)
        | with_reducible exact zqi rfl
        | fail)
  · rw [if_neg hm]
    have key : ∀ j, j ≤ r → ∀ o5 o6 : Option Value, Z g kX6_laughers (zQp (rput g m R M) (.int (zor (fLaughs1 (R 0) s k) r))) nX6_laughers 0 0 (rput g m R M) 5 [some (.ref m), some (.int s), some (.int k), some (.int (zor (fLaughs1 (R 0) s k) j)), some (.int (nI j)), o5, o6] [] := by
      refine zdown r (fun o5 o6 => ?_) (fun j hj ih o5 o6 => ?_)
      · refine sX6_laughers_5 rp_o rfl rp_0 vp2 (fun c_5 => ?_) (fun c_5 => absurd (le_yes hr2) c_5)
        repeat' (first
          | refine sX6_laughers_0 ?_
          | refine sX6_laughers_16 ?_
          | refine sX6_laughers_22 (fun c_22 => ?_) (fun c_22 => ?_)
          | refine sX6_laughers_25 rp_o rfl rp_0 ?_ ?_ (fun c_25 => ?_) (fun c_25 => ?_)
          | refine sX6_laughers_58 ?_
          | refine sX6_laughers_67 (fun c_67 => ?_) (fun c_67 => ?_)
          | refine sX6_laughers_72 ?_
          | refine sX6_laughers_76 ?_
          | refine sX6_laughers_80 ?_
          | refine sX6_laughers_86 (fun c_86 => ?_) (fun c_86 => ?_)
          | refine sX6_laughers_91 ?_
          | refine sX6_laughers_95 ?_
          | refine sX6_laughers_96 (fun c_96 => ?_) (fun c_96 => ?_)
          | refine sX6_laughers_104 ?_
          | refine sX6_laughers_111 ?_
          | refine sX6_laughers_112 ?_
          | refine sX6_laughers_120 ?_
          | refine iX6_laughers_19 (c6_mark hV ?_) rp_is (zpr ?_)
          | refine iX6_laughers_64 (c6_of hV ?_) rp_is (zpr ?_)
          | refine iX6_laughers_83 (c6_bad hV ?_ ?_) rp_is (zpr ?_)
          | with_reducible exact zqi rfl
          | fail)
      · refine sX6_laughers_5 rp_o rfl rp_0 vp2 (fun c_5 => absurd c_5 (le_no hr2 (by omega) hj)) (fun c_5 => ?_)
        repeat' (first
          | with_reducible exact hk.k18 hs
          | with_reducible exact hk.k10 hs
          | with_reducible exact hk.k2 hs
          | with_reducible exact absurd c_22 hm
          | with_reducible exact vp_nI (ixR1 j) (by omega) (by decide)
          | with_reducible exact vp_nI (ixR j) (by omega) (by decide)
          | (rw [zo_v (by unfold fLaughs1; simp only [*, if_true, if_false, not_true, not_false_eq_true]), nI_1]; exact ih _ _)
          | exact absurd rfl c_96
          | exact absurd c_96 (by decide)
          | refine sX6_laughers_0 ?_
          | refine sX6_laughers_16 ?_
          | refine sX6_laughers_22 (fun c_22 => ?_) (fun c_22 => ?_)
          | refine sX6_laughers_25 rp_o rfl rp_0 ?_ ?_ (fun c_25 => ?_) (fun c_25 => ?_)
          | refine sX6_laughers_58 ?_
          | refine sX6_laughers_67 (fun c_67 => ?_) (fun c_67 => ?_)
          | refine sX6_laughers_72 ?_
          | refine sX6_laughers_76 ?_
          | refine sX6_laughers_80 ?_
          | refine sX6_laughers_86 (fun c_86 => ?_) (fun c_86 => ?_)
          | refine sX6_laughers_91 ?_
          | refine sX6_laughers_95 ?_
          | refine sX6_laughers_96 (fun c_96 => ?_) (fun c_96 => ?_)
          | refine sX6_laughers_104 ?_
          | refine sX6_laughers_111 ?_
          | refine sX6_laughers_112 ?_
          | refine sX6_laughers_120 ?_
          | refine iX6_laughers_19 (c6_mark hV ?_) rp_is (zpr ?_)
          | refine iX6_laughers_64 (c6_of hV ?_) rp_is (zpr ?_)
          | refine iX6_laughers_83 (c6_bad hV ?_ ?_) rp_is (zpr ?_)
          | with_reducible exact zqi rfl
          | fail)
    exact key 0 (Nat.zero_le r) _ _
def fLaughs (q : Nat → Int32) (s k : Int32) : Int32 := zsum (fun j => (fLs q s k >>> (nI j &&& 31)) &&& 1) 5
theorem c6_laughs (hV : zV g) (hs : SOk (R 0) s) (hk : KOk k) (hr : GR (R 0)) : tX6_laughs g [.ref m, .int s, .int k] (rput g m R M) nX6_laughs 0 0 (zQp (rput g m R M) (.int (fLaughs (R 0) s k))) := by
  unfold fLaughs
  refine eX6_laughs hV (sX6_laughs_0 ?_)
  refine zdown (P := fun j => Z g kX6_laughs _ _ 0 0 (rput g m R M) 5 [some (.ref m), some (.int s), some (.int k), some (.int (zsum (fun j => (fLs (R 0) s k >>> (nI j &&& 31)) &&& 1) j)), some (.int (nI j))] []) 5 ?_ (fun j hj ih => ?_) 0 (Nat.zero_le 5)
  · refine sX6_laughs_5 (fun c_5 => ?_) (fun c_5 => absurd (Int32.le_refl _) c_5)
    repeat' (first
      | refine sX6_laughs_0 ?_
      | refine sX6_laughs_11 ?_
      | refine sX6_laughs_18 ?_
      | refine sX6_laughs_31 ?_
      | refine iX6_laughs_15 (c6_laughers hV ?_ ?_ ?_) rp_is (zpr ?_)
      | with_reducible exact zqi rfl
      | fail)
  · refine sX6_laughs_5 (fun c_5 => absurd c_5 (nI_ge hj (by decide))) (fun c_5 => ?_)
    repeat' (first
      | with_reducible exact hs
      | with_reducible exact hk
      | with_reducible exact hr
      | (rw [zs_v (by rfl), nI_1]; exact ih)
      | refine sX6_laughs_0 ?_
      | refine sX6_laughs_11 ?_
      | refine sX6_laughs_18 ?_
      | refine sX6_laughs_31 ?_
      | refine iX6_laughs_15 (c6_laughers hV ?_ ?_ ?_) rp_is (zpr ?_)
      | with_reducible exact zqi rfl
      | fail)
end RM4
