/-! ErrataPressModel: reader, day -/
section RT
variable {g : ZG} {m : Nat} {R K : Nat → Nat → Int32} {M : ZM} {s w h k x y c : Int32} {n S r : Nat} {f : Nat → Int32}
theorem kr_0 {f : Nat → Int32} : (rput g m (rrow K 0 f) M).1 (m + 1) = some (.inl (zA g 0, 240, .inl f)) := by rw [rp_0]; rfl
theorem kr_c {f f2 : Nat → Int32} : zup (rput g m (rrow K 0 f) M) (m + 1) (.inl (zA g 0, 240, .inl f2)) = rput g m (rrow K 0 f2) M := by rw [rc_0, rrow_rrow]
theorem c6_laysr (hV : zV g) {f : Nat → Int32} {i : Nat} (hb : 22 + 26 * s + w = nI i) (hi : i < 240) : tX6_lays g [.ref m, .int s, .int w, .int x] (rput g m (rrow K 0 f) M) nX6_lays 0 0 (zQv (rput g m (rrow K 0 (upd f i x)) M)) := by
  have := c6_lays (m := m) (M := M) (R := rrow K 0 f) (x := x) hV (vp_nI hb hi (by decide))
  rw [rLay_row, cl_nI hb (by omega)] at this
  exact this
theorem c6_addsr (hV : zV g) {f : Nat → Int32} {i : Nat} (hb : 10 + 3 * h + w = nI i) (hi : i < 240) : tX6_adds g [.ref m, .int h, .int w, .int x] (rput g m (rrow K 0 f) M) nX6_adds 0 0 (zQv (rput g m (rrow K 0 (upd f i (f i + x))) M)) := by
  have := c6_adds (m := m) (M := M) (R := rrow K 0 f) (x := x) hV (vp_nI hb hi (by decide))
  rw [rAdd_row] at this
  unfold fBy at this
  rw [cl_nI hb (by omega)] at this
  exact this
theorem c6_getsr (hV : zV g) {f : Nat → Int32} {i : Nat} (hb : 10 + 3 * h + w = nI i) (hi : i < 240) : tX6_gets g [.ref m, .int h, .int w, .int x] (rput g m (rrow K 0 f) M) nX6_gets 0 0 (zQv (rput g m (rrow K 0 (upd f i (fAtMost (f i + x) 99))) M)) := by
  have := c6_gets (m := m) (M := M) (R := rrow K 0 f) (x := x) hV (vp_nI hb hi (by decide))
  rw [rGet_row] at this
  unfold fBy at this
  rw [cl_nI hb (by omega)] at this
  exact this
/-- keeps, from any state -/
theorem rkb : rput g m (rKeep R 0) M = rput g m (rrow (rKeep R 0) 0 (R 0)) M := by
  rw [← rKeep_0 (R := R) (j := 0), rrow_id]
def gRead (q : Nat → Int32) (r : Nat) (kd t : Int32) : Nat → Int32 := upd (upd (upd q (230 + 2 * r) kd) (231 + 2 * r) t) 2 (nI (r + 1))
def fIsR (kd t : Int32) : Prop := (0 ≤ kd ∧ kd ≤ 1) ∧ 1 ≤ t ∧ t ≤ 6
def oRead (R : Nat → Nat → Int32) (r : Nat) (kd t : Int32) : (Nat → Nat → Int32) × Int32 :=
  if (0 ≤ kd ∧ kd ≤ 1) ∧ 1 ≤ t ∧ t ≤ 6 then (if r = 5 then (rRef (rFail R 0) 2 1 5, 0) else (kept R (gRead (R 0) r kd t), nI r)) else (rFail R 1, 0)
theorem c6_reader (hV : zV g) (H : Inv (R 0) n S r) (hc : Ch R) : tX6_reader g [.ref m, .int x, .int y] (rput g m R M) nX6_reader 0 0 (zQo g m M (oRead R r x y)) := by
  have hr : R 0 2 = nI r := H.2.2.2.2.1
  have hr5 := H.2.2.2.2.2.1
  refine eX6_reader hV ?_
  repeat' (first
    | exact absurd c_28 (by decide)
    | with_reducible exact vl2
    | refine sX6_reader_0 ?_
    | refine sX6_reader_7 (fun c_7 => ?_) (fun c_7 => ?_)
    | refine sX6_reader_10 ?_
    | refine sX6_reader_17 (fun c_17 => ?_) (fun c_17 => ?_)
    | refine sX6_reader_20 ?_
    | refine sX6_reader_24 ?_
    | refine sX6_reader_28 (fun c_28 => ?_) (fun c_28 => ?_)
    | refine sX6_reader_31 ?_
    | refine sX6_reader_33 rp_o rfl rp_0 ?_ (fun c_33 => ?_) (fun c_33 => ?_)
    | refine sX6_reader_43 ?_
    | refine sX6_reader_50 ?_
    | refine sX6_reader_51 rp_o rfl ?_
    | refine sX6_reader_59 rp_o rfl rp_0 ?_ ?_ rp_o rfl rp_0 ?_ ?_ rp_o rfl rp_0 ?_ rp_o rfl rp_0 ?_ ?_
    | refine iX6_reader_4 (c6_in hV) (zpr ?_)
    | refine iX6_reader_14 (c6_in hV) (zpr ?_)
    | refine iX6_reader_25 (c6_fails hV) rp_is (zpr ?_)
    | refine iX6_reader_47 (c6_refuses hV) rp_is (zpr ?_)
    | with_reducible exact zqi rfl
    | simp only [rs_4, rs_5, rs_6, rs_7, rs_8, rs_9, rs_10, rs_11, rs_12, rs_14, rs_15, rs_17, rs_18, rs_20, rf_r, ra_0, ra_1, ra_2, ra_3, ra_4, ra_5, ra_6, rFail_0]
    | fail)
  · exact zqo (by unfold oRead; rw [if_neg (fun h => bI_no c_7 h.1)])
  · exact zqo (by unfold oRead; rw [if_neg (fun h => bI_no c_17 h.2)])
  · have e5 : ¬ r = 5 := fun h => c_33 (by rw [← show nI 5 = 5 from rfl, ← h]; exact hr)
    have h2 : (2 : Int32).toNatClampNeg = 2 := rfl
    have ex0 : (230 + 2 * nI r : Int32) = nI (230 + 2 * r) := by rw [show (2 : Int32) = nI 2 from rfl, pk_mul, show (230 : Int32) = nI 230 from rfl, nI_add]
    have ex1 : (230 + 2 * nI r + 1 : Int32) = nI (231 + 2 * r) := by rw [ex0, show (1 : Int32) = nI 1 from rfl, nI_add]; congr 1; omega
    refine iX6_reader_56 (c6_keepsk hV hc) rp_is (zpv ?_)
    generalize hq : R 0 = q at *
    have e0 : (230 + 2 * q (2 : Int32).toNatClampNeg : Int32) = nI (230 + 2 * r) := by rw [h2, hr, ex0]
    have c0 : (230 + 2 * q (2 : Int32).toNatClampNeg : Int32).toNatClampNeg = 230 + 2 * r := cl_nI e0 (by omega)
    have e1 : (230 + 2 * (upd q (230 + 2 * q (2 : Int32).toNatClampNeg : Int32).toNatClampNeg x) (2 : Int32).toNatClampNeg + 1 : Int32) = nI (231 + 2 * r) := by rw [c0, h2, upd_n (by omega), hr, ex1]
    have c1 : (230 + 2 * (upd q (230 + 2 * q (2 : Int32).toNatClampNeg : Int32).toNatClampNeg x) (2 : Int32).toNatClampNeg + 1 : Int32).toNatClampNeg = 231 + 2 * r := cl_nI e1 (by omega)
    refine sX6_reader_59 rp_o rfl kp_0 vl2 (vp_nI e0 (by omega) (by decide)) (by rw [kc_0]; exact rp_o) rfl (by rw [kc_0]; exact kp_0) vl2 (vp_nI e1 (by omega) (by decide)) (by rw [kc_0, kc_0]; exact rp_o) rfl (by rw [kc_0, kc_0]; exact kp_0) vl2 (by rw [kc_0, kc_0, kc_0]; exact rp_o) rfl (by rw [kc_0, kc_0, kc_0]; exact kp_0) vl2 ?_
    rw [kc_0, kc_0, kc_0, c1, c0]
    refine zqo ?_
    unfold oRead gRead
    rw [if_pos ⟨bI_yes c_7, bI_yes c_17⟩, if_neg e5, hq, h2, upd_s, upd_n (by omega), upd_n (by omega), hr, nI_1, nI_pred]
  · have e5 : r = 5 := (nI_eq_lit (by omega) (by decide)).mp ((hr.symm.trans c_33 : nI r = nI 5))
    exact zqo (by unfold oRead; rw [if_pos ⟨bI_yes c_7, bI_yes c_17⟩, if_pos e5])
def dyF (f : Nat → Int32) (h : Nat) : Nat → Int32 := if f (11 + 3 * h) ≤ 0 then f else upd f (11 + 3 * h) (f (11 + 3 * h) + -1)
def dyS (p : (Nat → Int32) × Int32) (h : Nat) : (Nat → Int32) × Int32 :=
  (upd (dyF p.1 h) (10 + 3 * h) (fAtMost (dyF p.1 h (10 + 3 * h) + 1) 99), p.2 + bI (¬ (dyF p.1 h (11 + 3 * h)) ≤ 20))
def dy (q : Nat → Int32) : Nat → (Nat → Int32) × Int32
  | 0 => (q, 0)
  | h + 1 => dyS (dy q h) h
theorem dyF_n {i : Nat} {h : Nat} (hi : i ≠ 11 + 3 * h) : dyF f h i = f i := by unfold dyF; split; rfl; exact upd_n hi
theorem dy_n {q : Nat → Int32} {i : Nat} : ∀ h, i < 10 ∨ 10 + 3 * h ≤ i → (dy q h).1 i = q i := by
  intro h
  induction h with
  | zero => intro _; rfl
  | succ h ih =>
    intro hi
    unfold dy dyS
    simp only
    rw [upd_n (by omega), dyF_n (by omega), ih (by omega)]
def gDay (q : Nat → Int32) (n : Nat) : Nat → Int32 := upd (dy q n).1 3 (q 3 + 1)
def oDay (R : Nat → Nat → Int32) (n : Nat) : (Nat → Nat → Int32) × Int32 := (rrow (rKeep R 0) 0 (gDay (R 0) n), (dy (R 0) n).2)
theorem c6_day (hV : zV g) (H : Inv (R 0) n S r) (hc : Ch R) : tX6_day g [.ref m] (rput g m R M) nX6_day 0 0 (zQo g m M (oDay R n)) := by
  have hn : R 0 0 = nI n := H.1
  have hn4 := H.2.1
  refine eX6_day hV ?_
  refine sX6_day_0 rp_o rfl ?_
  refine iX6_day_5 (c6_keeps0 hV hc) rp_is (zpv ?_)
  rw [rkb]
  refine sX6_day_8 ?_
  have key := zdown (P := fun j => Z g kX6_day (zQo g m M (oDay R n)) nX6_day 0 0 (rput g m (rrow (rKeep R 0) 0 (dy (R 0) j).1) M) 12 [some (.ref m), some (.int (dy (R 0) j).2), some (.int (nI j))] []) n ?_ (fun j hj ih => ?_) 0 (Nat.zero_le _)
  · exact key
  · refine sX6_day_12 rp_o rfl kr_0 vl0 (fun _ => ?_) (fun c => absurd (by rw [show (0 : Int32).toNatClampNeg = 0 from rfl, dy_n _ (Or.inl (by decide)), hn]; exact Int32.le_refl _) c)
    refine sX6_day_67 rp_o rfl kr_0 vl3 ?_
    rw [kr_c]
    refine zqo ?_
    unfold oDay gDay
    rw [show (3 : Int32).toNatClampNeg = 3 from rfl, dy_n _ (Or.inl (by decide))]
  · refine sX6_day_12 rp_o rfl kr_0 vl0 (fun c => absurd c (by rw [show (0 : Int32).toNatClampNeg = 0 from rfl, dy_n _ (Or.inl (by decide)), hn]; exact nI_ge hj (by omega))) (fun _ => ?_)
    refine sX6_day_22 ?_
    refine iX6_day_25 (c6_by (R := rrow (rKeep R 0) 0 (dy (R 0) j).1) hV (vp_nI (ixH1 j) (by omega) (by decide))) rp_is (zpr ?_)
    rw [rrow_s]
    unfold fBy
    rw [cl_nI (ixH1 j) (by omega)]
    generalize hp : dy (R 0) j = p at *
    have tail : Z g kX6_day (zQo g m M (oDay R n)) nX6_day 0 0 (rput g m (rrow (rKeep R 0) 0 (dyF p.1 j)) M) 38 [some (.ref m), some (.int p.2), some (.int (nI j))] [] := by
      refine sX6_day_38 ?_
      refine iX6_day_42 (c6_getsr hV (ixH0 j) (by omega)) rp_is (zpv ?_)
      refine sX6_day_45 ?_
      refine iX6_day_48 (c6_isAshamed (R := rrow (rKeep R 0) 0 (upd (dyF p.1 j) (10 + 3 * j) (fAtMost (dyF p.1 j (10 + 3 * j) + 1) 99))) hV ⟨j, by omega, rfl⟩) rp_is (zpr ?_)
      rw [rrow_s]
      have e : fAsh (upd (dyF p.1 j) (10 + 3 * j) (fAtMost (dyF p.1 j (10 + 3 * j) + 1) 99)) (nI j) = bI (¬ (dyF p.1 j (11 + 3 * j)) ≤ 20) := by
        unfold fAsh fBy
        rw [cl_nI (ixH1 j) (by omega), upd_n (by omega)]
      rw [e]
      have fin : ∀ v, v = bI (¬ (dyF p.1 j (11 + 3 * j)) ≤ 20) → Z g kX6_day (zQo g m M (oDay R n)) nX6_day 0 0 (rput g m (rrow (rKeep R 0) 0 (upd (dyF p.1 j) (10 + 3 * j) (fAtMost (dyF p.1 j (10 + 3 * j) + 1) 99))) M) 59 [some (.ref m), some (.int p.2), some (.int (nI j))] [.int v, .int p.2] := by
        rintro v rfl
        refine sX6_day_59 ?_
        rw [nI_1]
        unfold dy dyS at ih
        rw [hp] at ih
        exact ih
      refine sX6_day_51 (fun c => sX6_day_58 (fin 0 c.symm)) (fun c => sX6_day_54 (fin 1 (bI_t (bI_yes c)).symm))
    refine sX6_day_28 (fun c => ?_) (fun c => ?_)
    · have : dyF p.1 j = p.1 := by unfold dyF; rw [if_pos c]
      rw [this] at tail
      exact tail
    · have : dyF p.1 j = upd p.1 (11 + 3 * j) (p.1 (11 + 3 * j) + -1) := by unfold dyF; rw [if_neg c]
      refine sX6_day_31 ?_
      refine iX6_day_35 (c6_addsr hV (ixH1 j) (by omega)) rp_is (zpv ?_)
      rw [← this]
      exact tail
end RT
