/-! ErrataPressModel: readers of g -/
section RM
theorem zqi {M : ZM} {x y : Int32} (h : y = x) : (zQp M (.int x)).1 (some (.int y)) M := ⟨by rw [h], rfl⟩
variable {g : ZG} {m : Nat} {R : Nat → Nat → Int32} {M : ZM} {s w h k least a b : Int32} {q : Nat → Int32}
def fBy (q : Nat → Int32) (h w : Int32) : Int32 := q (10 + 3 * h + w : Int32).toNatClampNeg
def fOf (q : Nat → Int32) (s w : Int32) : Int32 := q (22 + 26 * s + w : Int32).toNatClampNeg
theorem c6_by (hV : zV g) (hb : vp_in (10 + 3 * h + w) 240) : tX6_by g [.ref m, .int h, .int w] (rput g m R M) nX6_by 0 0 (zQp (rput g m R M) (.int (fBy (R 0) h w))) := by
  refine eX6_by hV ?_
  exact sX6_by_0 rp_o rfl rp_0 hb ⟨rfl, rfl⟩
theorem c6_of (hV : zV g) (hb : vp_in (22 + 26 * s + w) 240) : tX6_of g [.ref m, .int s, .int w] (rput g m R M) nX6_of 0 0 (zQp (rput g m R M) (.int (fOf (R 0) s w))) := by
  refine eX6_of hV ?_
  exact sX6_of_0 rp_o rfl rp_0 hb ⟨rfl, rfl⟩
theorem c6_in (hV : zV g) {M : ZM} {v lo hi : Int32} : tX6_in g [.int v, .int lo, .int hi] M nX6_in 0 0 (zQp M (.int (bI (lo ≤ v ∧ v ≤ hi)))) := by
  refine eX6_in hV ?_
  repeat' (first
    | refine sX6_in_0 (fun c_0 => ?_) (fun c_0 => ?_)
    | refine sX6_in_5 (fun c_5 => ?_) (fun c_5 => ?_)
    | refine sX6_in_10 ?_
    | refine sX6_in_14 ?_
    | refine sX6_in_15 (by first | exact Or.inl rfl | exact Or.inr rfl | exact bI_01 _ | assumption) ?_
    | with_reducible exact zqi rfl
    | fail)
  all_goals exact zqi (by unfold bI; grind)
def fApart (a b : Int32) : Int32 := if b ≤ a then a - b else b - a
theorem c6_apart (hV : zV g) {M : ZM} : tX6_apart g [.int a, .int b] M nX6_apart 0 0 (zQp M (.int (fApart a b))) := by
  refine eX6_apart hV ?_
  repeat' (first
    | refine sX6_apart_0 (fun c_0 => ?_) (fun c_0 => ?_)
    | refine sX6_apart_5 ?_
    | refine sX6_apart_11 ?_
    | refine sX6_apart_14 ?_
    | with_reducible exact zqi rfl
    | fail)
  all_goals exact zqi (by unfold fApart; grind)
def fAtMost (a b : Int32) : Int32 := if b ≤ a then b else a
theorem c6_atMost (hV : zV g) {M : ZM} : tX6_atMost g [.int a, .int b] M nX6_atMost 0 0 (zQp M (.int (fAtMost a b))) := by
  refine eX6_atMost hV ?_
  repeat' (first
    | refine sX6_atMost_0 (fun c_0 => ?_) (fun c_0 => ?_)
    | refine sX6_atMost_5 ?_
    | refine sX6_atMost_9 ?_
    | refine sX6_atMost_10 ?_
    | with_reducible exact zqi rfl
    | fail)
  all_goals exact zqi (by unfold fAtMost; grind)
theorem c6_mark (hV : zV g) (hb : vp_in (22 + 26 * s + (18 + k)) 240) : tX6_mark g [.ref m, .int s, .int k] (rput g m R M) nX6_mark 0 0 (zQp (rput g m R M) (.int (fOf (R 0) s (18 + k)))) := by
  refine eX6_mark hV ?_
  repeat' (first
    | with_reducible exact hb
    | refine sX6_mark_0 ?_
    | refine sX6_mark_9 ?_
    | refine iX6_mark_6 (c6_of hV ?_) rp_is (zpr ?_)
    | with_reducible exact zqi rfl
    | fail)
def fBad (q : Nat → Int32) (s k : Int32) : Int32 := fApart (fOf q s (10 + k)) (fOf q s (2 + k))
theorem c6_bad (hV : zV g) (hb1 : vp_in (22 + 26 * s + (10 + k)) 240) (hb2 : vp_in (22 + 26 * s + (2 + k)) 240) : tX6_bad g [.ref m, .int s, .int k] (rput g m R M) nX6_bad 0 0 (zQp (rput g m R M) (.int (fBad (R 0) s k))) := by
  refine eX6_bad hV ?_
  repeat' (first
    | with_reducible exact hb1
    | with_reducible exact hb2
    | refine sX6_bad_0 ?_
    | refine sX6_bad_9 ?_
    | refine sX6_bad_20 ?_
    | refine iX6_bad_6 (c6_of hV ?_) rp_is (zpr ?_)
    | refine iX6_bad_14 (c6_of hV ?_) rp_is (zpr ?_)
    | refine iX6_bad_17 (c6_apart hV) (zpr ?_)
    | with_reducible exact zqi rfl
    | fail)
  all_goals exact zqi rfl
end RM
