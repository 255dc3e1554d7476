/-! ErrataPressModel: house, letters, sheet, take -/
section RP
variable {g : ZG} {m : Nat} {R : Nat → Nat → Int32} {M : ZM} {s w h k x y c : Int32} {n S r : Nat}
/-- changes: at most 8 -/
def Ch (R : Nat → Nat → Int32) : Prop := ∃ c : Nat, c ≤ 8 ∧ R 7 5 = nI c
abbrev zQo (g : ZG) (m : Nat) (M : ZM) (o : (Nat → Nat → Int32) × Int32) : ZQ := zQp (rput g m o.1 M) (.int o.2)
theorem zqo {o : (Nat → Nat → Int32) × Int32} {R2 : Nat → Nat → Int32} {v : Int32} (h : o = (R2, v)) : (zQo g m M o).1 (some (.int v)) (rput g m R2 M) := by subst h; exact ⟨rfl, rfl⟩
theorem c6_keeps0 (hV : zV g) (hc : Ch R) : tX6_keeps g [.ref m, .ref (m + 1)] (rput g m R M) nX6_keeps 0 0 (zQv (rput g m (rKeep R 0) M)) := c6_keeps hV (j := 0) (Or.inl rfl) hc
theorem rFail_0 : rFail R x 0 = R 0 := rfl
theorem rKeep_0 {j : Nat} : rKeep R j 0 = R 0 := by
  funext i
  unfold rKeep rKeep1
  split
  · split <;> rfl
  · rfl
theorem rLay_row {f : Nat → Int32} : rLay (rrow R 0 f) s w x = rrow R 0 (upd f (22 + 26 * s + w : Int32).toNatClampNeg x) := by unfold rLay; rw [ru_rrow]
theorem rAdd_row {f : Nat → Int32} : rAdd (rrow R 0 f) h w x = rrow R 0 (upd f (10 + 3 * h + w : Int32).toNatClampNeg (fBy f h w + x)) := by unfold rAdd; rw [ru_rrow, rrow_s]
theorem rGet_row {f : Nat → Int32} : rGet (rrow R 0 f) h w x = rrow R 0 (upd f (10 + 3 * h + w : Int32).toNatClampNeg (fAtMost (fBy f h w + x) 99)) := by unfold rGet; rw [ru_rrow, rrow_s]
theorem upd_s {f : Nat → Int32} {i : Nat} {x : Int32} : upd f i x i = x := by unfold upd; rw [if_pos rfl]
theorem upd_n {f : Nat → Int32} {i j : Nat} {x : Int32} (h : j ≠ i) : upd f i x j = f j := by unfold upd; rw [if_neg h]
theorem upd_upd {f : Nat → Int32} {i : Nat} {x y : Int32} : upd (upd f i x) i y = upd f i y := by funext j; unfold upd; split <;> rfl
theorem upd_c {f : Nat → Int32} {i j : Nat} {x y : Int32} (h : i ≠ j) : upd (upd f i x) j y = upd (upd f j y) i x := by
  funext a; unfold upd
  by_cases h1 : a = i
  · subst h1; simp [h]
  · simp [h1]
/-- zeros from a on -/
def fil (f : Nat → Int32) (a z : Nat) : Nat → Int32 := fun i => if a ≤ i ∧ i < a + z then 0 else f i
theorem fil_0 {f : Nat → Int32} {a : Nat} : fil f a 0 = f := by funext i; unfold fil; rw [if_neg (by omega)]
theorem fil_s {f : Nat → Int32} {a z : Nat} : upd (fil f a z) (a + z) 0 = fil f a (z + 1) := by
  funext i; unfold upd fil
  by_cases h : i = a + z
  · subst h; rw [if_pos rfl, if_pos (by omega)]
  · rw [if_neg h]
    by_cases h2 : a ≤ i ∧ i < a + z
    · rw [if_pos h2, if_pos (by omega)]
    · rw [if_neg h2, if_neg (by omega)]
/-- the reference after a change: what stood is kept, row 0 is f -/
def kept (R : Nat → Nat → Int32) (f : Nat → Int32) : Nat → Nat → Int32 := rrow (rKeep (rFail R 0) 0) 0 f
theorem rk_row : rput g m (rKeep (rFail R 0) 0) M = rput g m (kept R (R 0)) M := by
  unfold kept
  have : (rFail R 0) 0 = R 0 := rfl
  rw [← this, ← rKeep_0 (R := rFail R 0) (j := 0), rrow_id]
theorem kp_0 {f : Nat → Int32} : (rput g m (kept R f) M).1 (m + 1) = some (.inl (zA g 0, 240, .inl f)) := by rw [rp_0]; rfl
theorem kc_0 {f f2 : Nat → Int32} : zup (rput g m (kept R f) M) (m + 1) (.inl (zA g 0, 240, .inl f2)) = rput g m (kept R f2) M := by
  rw [rc_0]; unfold kept; rw [rrow_rrow]
theorem c6_keepsk (hV : zV g) (hc : Ch R) : tX6_keeps g [.ref m, .ref (m + 1)] (rput g m (rFail R 0) M) nX6_keeps 0 0 (zQv (rput g m (kept R (R 0)) M)) := by
  have := c6_keeps0 (m := m) (M := M) hV (show Ch (rFail R 0) from hc)
  rw [rk_row] at this
  exact this
theorem c6_laysk (hV : zV g) {f : Nat → Int32} {i : Nat} (hb : 22 + 26 * s + w = nI i) (hi : i < 240) : tX6_lays g [.ref m, .int s, .int w, .int x] (rput g m (kept R f) M) nX6_lays 0 0 (zQv (rput g m (kept R (upd f i x)) M)) := by
  have := c6_lays (m := m) (M := M) (R := kept R f) (x := x) hV (vp_nI hb hi (by decide))
  unfold kept at this
  rw [rLay_row, cl_nI hb (by omega)] at this
  exact this
theorem c6_addsk (hV : zV g) {f : Nat → Int32} {i : Nat} (hb : 10 + 3 * h + w = nI i) (hi : i < 240) : tX6_adds g [.ref m, .int h, .int w, .int x] (rput g m (kept R f) M) nX6_adds 0 0 (zQv (rput g m (kept R (upd f i (f i + x))) M)) := by
  have := c6_adds (m := m) (M := M) (R := kept R f) (x := x) hV (vp_nI hb hi (by decide))
  unfold kept at this
  rw [rAdd_row] at this
  unfold fBy at this
  rw [cl_nI hb (by omega)] at this
  exact this
theorem c6_getsk (hV : zV g) {f : Nat → Int32} {i : Nat} (hb : 10 + 3 * h + w = nI i) (hi : i < 240) : tX6_gets g [.ref m, .int h, .int w, .int x] (rput g m (kept R f) M) nX6_gets 0 0 (zQv (rput g m (kept R (upd f i (fAtMost (f i + x) 99))) M)) := by
  have := c6_gets (m := m) (M := M) (R := kept R f) (x := x) hV (vp_nI hb hi (by decide))
  unfold kept at this
  rw [rGet_row] at this
  unfold fBy at this
  rw [cl_nI hb (by omega)] at this
  exact this
theorem vl {i : Nat} (hi : i < 240) : vp_in (nI i) 240 := vp_in_nI hi (by decide)
theorem vl0 : vp_in (0 : Int32) 240 := vl (i := 0) (by decide)
theorem vl1 : vp_in (1 : Int32) 240 := vl (i := 1) (by decide)
theorem vl2 : vp_in (2 : Int32) 240 := vl (i := 2) (by decide)
theorem vl3 : vp_in (3 : Int32) 240 := vl (i := 3) (by decide)
theorem vl4 : vp_in (4 : Int32) 240 := vl (i := 4) (by decide)
theorem vl5 : vp_in (5 : Int32) 240 := vl (i := 5) (by decide)
theorem vl6 : vp_in (6 : Int32) 240 := vl (i := 6) (by decide)
theorem vl7 : vp_in (7 : Int32) 240 := vl (i := 7) (by decide)
theorem vl8 : vp_in (8 : Int32) 240 := vl (i := 8) (by decide)
def gHouse (q : Nat → Int32) (n : Nat) (x : Int32) : Nat → Int32 := upd (fil (upd q 0 (nI (n + 1))) (10 + 3 * n) 3) (10 + 3 * n) x
def oHouse (R : Nat → Nat → Int32) (n : Nat) (x : Int32) : (Nat → Nat → Int32) × Int32 :=
  if 0 ≤ x ∧ x ≤ 99 then (if n = 4 then (rRef (rFail R 0) 2 1 4, 0) else (kept R (gHouse (R 0) n x), nI n)) else (rFail R 1, 0)
theorem bI_no {p : Prop} [Decidable p] (h : bI p = 0) : ¬ p := bI_0.mp h
theorem bI_yes {p : Prop} [Decidable p] (h : ¬ bI p = 0) : p := Decidable.byContradiction (fun hn => h (bI_f hn))
theorem nI_eq_lit {n k : Nat} (hn : n < 2 ^ 31) (hk : k < 2 ^ 31) : nI n = nI k ↔ n = k := by
  constructor
  · intro h
    have := congrArg Int32.toInt h
    rw [nI_toInt hn, nI_toInt hk] at this
    omega
  · intro h; rw [h]
theorem c6_house (hV : zV g) (H : Inv (R 0) n S r) (hc : Ch R) : tX6_house g [.ref m, .int x] (rput g m R M) nX6_house 0 0 (zQo g m M (oHouse R n x)) := by
  have hn : R 0 0 = nI n := H.1
  have hn4 := H.2.1
  refine eX6_house hV ?_
  repeat' (first
    | exact absurd c_19 (by decide)
    | with_reducible exact vl0
    | refine sX6_house_0 ?_
    | refine sX6_house_8 (fun c_8 => ?_) (fun c_8 => ?_)
    | refine sX6_house_11 ?_
    | refine sX6_house_15 ?_
    | refine sX6_house_19 (fun c_19 => ?_) (fun c_19 => ?_)
    | refine sX6_house_22 ?_
    | refine sX6_house_24 rp_o rfl rp_0 ?_ (fun c_24 => ?_) (fun c_24 => ?_)
    | refine sX6_house_34 ?_
    | refine sX6_house_41 ?_
    | refine sX6_house_42 rp_o rfl ?_
    | refine sX6_house_50 rp_o rfl rp_0 ?_ ?_
    | refine sX6_house_74 rp_o rfl rp_0 ?_ ?_
    | refine sX6_house_94 ?_
    | refine sX6_house_101 ?_
    | refine iX6_house_5 (c6_in hV) (zpr ?_)
    | refine iX6_house_16 (c6_fails hV) rp_is (zpr ?_)
    | refine iX6_house_38 (c6_refuses hV) rp_is (zpr ?_)
    | refine iX6_house_98 (c6_adds hV ?_) rp_is (zpv ?_)
    | with_reducible exact zqi rfl
    | simp only [rs_4, rs_5, rs_6, rs_7, rs_8, rs_9, rs_10, rs_11, rs_12, rs_14, rs_15, rs_17, rs_18, rs_20, rf_r, ra_0, ra_1, ra_2, ra_3, ra_4, ra_5, ra_6, rFail_0]
    | fail)
  · exact zqo (by unfold oHouse; rw [if_neg (bI_no c_8)])
  · have e4 : ¬ n = 4 := fun h => c_24 (by rw [← show nI 4 = 4 from rfl, ← h]; exact hn)
    refine iX6_house_47 (c6_keepsk hV hc) rp_is (zpv ?_)
    refine sX6_house_50 rp_o rfl kp_0 vl0 ?_
    rw [kc_0, show R 0 (0 : Int32).toNatClampNeg = nI n from hn, nI_1, show (0 : Int32).toNatClampNeg = 0 from rfl]
    have key := zdown (P := fun j => Z g kX6_house (zQo g m M (oHouse R n x)) nX6_house 0 0 (rput g m (kept R (fil (upd (R 0) 0 (nI (n + 1))) (10 + 3 * n) j)) M) 69 [some (.ref m), some (.int x), some (.int (nI n)), some (.int (nI j))] []) 3 ?_ (fun j hj ih => ?_) 0 (Nat.zero_le _)
    · rw [fil_0] at key
      exact key
    · refine sX6_house_69 (fun _ => ?_) (fun c => absurd (Int32.le_refl _) c)
      refine sX6_house_94 ?_
      refine iX6_house_98 (c6_addsk hV (i := 10 + 3 * n) (by rw [show (0 : Int32) = nI 0 from rfl, ixH]; rfl) (by omega)) rp_is (zpv ?_)
      refine sX6_house_101 (zqo ?_)
      unfold oHouse gHouse
      rw [if_pos (bI_yes c_8), if_neg e4]
      rw [show fil (upd (R 0) 0 (nI (n + 1))) (10 + 3 * n) 3 (10 + 3 * n) = 0 from by unfold fil; rw [if_pos (by omega)], Int32.zero_add]
    · refine sX6_house_69 (fun c => absurd c (nI_ge hj (by decide))) (fun _ => ?_)
      refine sX6_house_74 rp_o rfl kp_0 (vp_nI (ixH n j) (by omega) (by decide)) ?_
      rw [kc_0, cl_nI (ixH n j) (by omega), fil_s, nI_1]
      exact ih
  · have e4 : n = 4 := (nI_eq_lit (by omega) (by decide)).mp ((hn.symm.trans c_24 : nI n = nI 4))
    exact zqo (by unfold oHouse; rw [if_pos (bI_yes c_8), if_pos e4])
end RP
