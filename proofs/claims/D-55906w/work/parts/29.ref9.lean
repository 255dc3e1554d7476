/-! ErrataPressModel: letters, sheet -/
section RQ
variable {g : ZG} {m : Nat} {R : Nat → Nat → Int32} {M : ZM} {s w h k x y c : Int32} {n S r : Nat}
/-- the figures of a number, the last one first -/
def dg (w : Nat) : List Nat := if h : w = 0 then [] else (w % 10) :: dg (w / 10)
termination_by w
decreasing_by omega
theorem dg_0 : dg 0 = [] := by rw [dg]; rfl
theorem dg_c {w : Nat} (h : 0 < w) : dg w = (w % 10) :: dg (w / 10) := by rw [dg]; exact dif_neg (by omega)
theorem dg_len : ∀ (k w : Nat), w < 10 ^ k → (dg w).length ≤ k := by
  intro k
  induction k with
  | zero => intro w hw; rw [show w = 0 by omega, dg_0]; exact Nat.le_refl _
  | succ k ih =>
    intro w hw
    rcases Nat.eq_zero_or_pos w with rfl | hp
    · rw [dg_0]; exact Nat.zero_le _
    · rw [dg_c hp]
      have := ih (w / 10) (by rw [Nat.pow_succ] at hw; omega)
      simpa using this
theorem dg_len31 {w : Nat} (h : w < 2 ^ 31) : (dg w).length ≤ 10 := dg_len 10 w (by omega)
/-- all figures from 1 to 6 -/
abbrev dgOk (w : Nat) : Prop := ∀ d ∈ dg w, 1 ≤ d ∧ d ≤ 6
abbrev isW (w : Nat) : Prop := dgOk w ∧ 3 ≤ (dg w).length ∧ (dg w).length ≤ 8
def fLetters (x : Int32) : Int32 := if isW x.toNatClampNeg then nI (dg x.toNatClampNeg).length else 0
theorem nI_div {i : Nat} (h : i < 2 ^ 31) : (nI i / 10 : Int32) = nI (i / 10) := by
  apply Int32.toInt_inj.mp
  rw [Int32.toInt_div, nI_toInt h, nI_toInt (by omega), show (10 : Int32).toInt = 10 from rfl]
  rw [Int.tdiv_eq_ediv_of_nonneg (by omega)]
  rw [Int.bmod_eq_of_le (by omega) (by omega)]
  omega
theorem nI_rem {i : Nat} (h : i < 2 ^ 31) : (nI i - nI i / 10 * 10 : Int32) = nI (i % 10) := by
  rw [nI_div h, show (10 : Int32) = nI 10 from rfl]
  apply Int32.toInt_inj.mp
  rw [Int32.toInt_sub, Int32.toInt_mul, nI_toInt h, nI_toInt (show i / 10 < 2 ^ 31 by omega), nI_toInt (show 10 < 2 ^ 31 by omega), nI_toInt (show i % 10 < 2 ^ 31 by omega)]
  rw [Int.bmod_eq_of_le (n := ((i / 10 : Nat) : Int) * (10 : Nat)) (by omega) (by omega)]
  rw [Int.bmod_eq_of_le (by omega) (by omega)]
  omega
theorem le_iff {a b : Nat} (ha : a < 2 ^ 31) (hb : b < 2 ^ 31) : nI a ≤ nI b ↔ a ≤ b := by
  rw [Int32.le_iff_toInt_le, nI_toInt ha, nI_toInt hb]; omega
theorem c6_letters_loop (hV : zV g) {M : ZM} {v0 : Option Value} : ∀ (f w nn : Nat), w < 2 ^ 31 → w < 10 ^ f → nn + f ≤ 20 → Z g kX6_letters (zQp M (.int (if dgOk w ∧ 3 ≤ nn + (dg w).length ∧ nn + (dg w).length ≤ 8 then nI (nn + (dg w).length) else 0))) nX6_letters 0 0 M 4 [v0, some (.int (nI nn)), some (.int (nI w))] [] := by
  intro f
  induction f with
  | zero =>
    intro w nn hw hf hn
    have : w = 0 := by omega
    subst this
    have hd : dgOk 0 := by unfold dgOk; rw [dg_0]; intro d hd; cases hd
    refine sX6_letters_4 (fun _ => ?_) (fun c => absurd (Int32.le_refl _) c)
    repeat' (first
      | refine sX6_letters_0 ?_
      | refine sX6_letters_8 ?_
      | refine sX6_letters_18 (fun c_18 => ?_) (fun c_18 => ?_)
      | refine sX6_letters_21 ?_
      | refine sX6_letters_23 ?_
      | refine sX6_letters_34 ?_
      | refine sX6_letters_41 (fun c_41 => ?_) (fun c_41 => ?_)
      | refine sX6_letters_44 ?_
      | refine sX6_letters_48 ?_
      | refine sX6_letters_49 ?_
      | refine iX6_letters_15 (c6_in hV) (zpr ?_)
      | refine iX6_letters_38 (c6_in hV) (zpr ?_)
      | with_reducible exact zqi rfl
      | simp only [rs_4, rs_5, rs_6, rs_7, rs_8, rs_9, rs_10, rs_11, rs_12, rs_14, rs_15, rs_17, rs_18, rs_20, rf_r, ra_0, ra_1, ra_2, ra_3, ra_4, ra_5, ra_6, rFail_0]
      | fail)
    · refine zqi ?_
      rw [if_neg]
      have := bI_no c_41
      rw [show (3 : Int32) = nI 3 from rfl, show (8 : Int32) = nI 8 from rfl, le_iff (by omega) (by omega), le_iff (by omega) (by omega)] at this
      rw [dg_0]
      intro h
      exact this h.2
    · refine zqi ?_
      have := bI_yes c_41
      rw [show (3 : Int32) = nI 3 from rfl, show (8 : Int32) = nI 8 from rfl, le_iff (by omega) (by omega), le_iff (by omega) (by omega)] at this
      rw [if_pos ⟨hd, by rw [dg_0]; exact this⟩, dg_0]; rfl
  | succ f ih =>
    intro w nn hw hf hn
    rcases Nat.eq_zero_or_pos w with rfl | hp
    · have hd : dgOk 0 := by unfold dgOk; rw [dg_0]; intro d hd; cases hd
      refine sX6_letters_4 (fun _ => ?_) (fun c => absurd (Int32.le_refl _) c)
      repeat' (first
        | refine sX6_letters_0 ?_
        | refine sX6_letters_8 ?_
        | refine sX6_letters_18 (fun c_18 => ?_) (fun c_18 => ?_)
        | refine sX6_letters_21 ?_
        | refine sX6_letters_23 ?_
        | refine sX6_letters_34 ?_
        | refine sX6_letters_41 (fun c_41 => ?_) (fun c_41 => ?_)
        | refine sX6_letters_44 ?_
        | refine sX6_letters_48 ?_
        | refine sX6_letters_49 ?_
        | refine iX6_letters_15 (c6_in hV) (zpr ?_)
        | refine iX6_letters_38 (c6_in hV) (zpr ?_)
        | with_reducible exact zqi rfl
        | simp only [rs_4, rs_5, rs_6, rs_7, rs_8, rs_9, rs_10, rs_11, rs_12, rs_14, rs_15, rs_17, rs_18, rs_20, rf_r, ra_0, ra_1, ra_2, ra_3, ra_4, ra_5, ra_6, rFail_0]
        | fail)
      · refine zqi ?_
        rw [if_neg]
        have := bI_no c_41
        rw [show (3 : Int32) = nI 3 from rfl, show (8 : Int32) = nI 8 from rfl, le_iff (by omega) (by omega), le_iff (by omega) (by omega)] at this
        rw [dg_0]
        intro h
        exact this h.2
      · refine zqi ?_
        have := bI_yes c_41
        rw [show (3 : Int32) = nI 3 from rfl, show (8 : Int32) = nI 8 from rfl, le_iff (by omega) (by omega), le_iff (by omega) (by omega)] at this
        rw [if_pos ⟨hd, by rw [dg_0]; exact this⟩, dg_0]; rfl
    · refine sX6_letters_4 (fun c => absurd c (by rw [show (0 : Int32) = nI 0 from rfl, le_iff (by omega) (by omega)]; omega)) (fun _ => ?_)
      refine sX6_letters_8 ?_
      rw [nI_rem hw]
      refine iX6_letters_15 (c6_in hV) (zpr ?_)
      refine sX6_letters_18 (fun c => ?_) (fun c => ?_)
      · have hb := bI_yes c
        rw [show (1 : Int32) = nI 1 from rfl, show (6 : Int32) = nI 6 from rfl, le_iff (by omega) (by omega), le_iff (by omega) (by omega)] at hb
        refine sX6_letters_23 ?_
        rw [nI_1, nI_div hw]
        have := ih (w / 10) (nn + 1) (by omega) (by rw [Nat.pow_succ] at hf; omega) (by omega)
        have hl : (dg w).length = (dg (w / 10)).length + 1 := by rw [dg_c hp]; rfl
        have e : dgOk w ↔ dgOk (w / 10) := by
          unfold dgOk; rw [dg_c hp]
          constructor
          · intro h d hd; exact h d (List.mem_cons_of_mem _ hd)
          · intro h d hd
            rcases List.mem_cons.mp hd with rfl | hd
            · exact hb
            · exact h d hd
        simp only [e, hl, show nn + ((dg (w / 10)).length + 1) = nn + 1 + (dg (w / 10)).length by omega]
        exact this
      · have hb := bI_no c
        rw [show (1 : Int32) = nI 1 from rfl, show (6 : Int32) = nI 6 from rfl, le_iff (by omega) (by omega), le_iff (by omega) (by omega)] at hb
        refine sX6_letters_21 (zqi ?_)
        rw [if_neg]
        intro h
        exact hb (h.1 (w % 10) (by rw [dg_c hp]; exact List.mem_cons_self))
theorem c6_letters (hV : zV g) {M : ZM} : tX6_letters g [.int x] M nX6_letters 0 0 (zQp M (.int (fLetters x))) := by
  refine eX6_letters hV (sX6_letters_0 ?_)
  by_cases hx : x < 0
  · have e : x.toNatClampNeg = 0 := by
      have : x.toInt < 0 := Int32.lt_iff_toInt_lt.mp hx
      unfold Int32.toNatClampNeg; omega
    refine sX6_letters_4 (fun _ => ?_) (fun c => absurd (Int32.le_of_lt hx) c)
    repeat' (first
      | exact absurd c_41 (by decide)
      | refine sX6_letters_0 ?_
      | refine sX6_letters_8 ?_
      | refine sX6_letters_18 (fun c_18 => ?_) (fun c_18 => ?_)
      | refine sX6_letters_21 ?_
      | refine sX6_letters_23 ?_
      | refine sX6_letters_34 ?_
      | refine sX6_letters_41 (fun c_41 => ?_) (fun c_41 => ?_)
      | refine sX6_letters_44 ?_
      | refine sX6_letters_48 ?_
      | refine sX6_letters_49 ?_
      | refine iX6_letters_15 (c6_in hV) (zpr ?_)
      | refine iX6_letters_38 (c6_in hV) (zpr ?_)
      | with_reducible exact zqi rfl
      | simp only [rs_4, rs_5, rs_6, rs_7, rs_8, rs_9, rs_10, rs_11, rs_12, rs_14, rs_15, rs_17, rs_18, rs_20, rf_r, ra_0, ra_1, ra_2, ra_3, ra_4, ra_5, ra_6, rFail_0]
      | fail)
    refine zqi ?_
    unfold fLetters
    rw [e, if_neg]
    intro h
    have := h.2.1
    rw [dg_0] at this
    exact absurd this (by decide)
  · obtain ⟨w, hw, rfl⟩ := nI_of hx
    have := c6_letters_loop (v0 := some (.int (nI w))) (M := M) hV 10 w 0 hw (by omega) (by decide)
    unfold fLetters isW
    rw [nI_clamp hw]
    simp only [Nat.zero_add] at this
    exact this
end RQ
