/-! ErrataPressModel: lines, append, meanShame, errorShare -/
section RZ
variable {g : ZG} {m : Nat} {R K : Nat → Nat → Int32} {M : ZM} {s w h k x y c b d : Int32} {n S r l : Nat} {q f : Nat → Int32}
def rWr (R : Nat → Nat → Int32) (c : Int32) : Nat → Nat → Int32 := ru (ru R 5 (R 7 17).toNatClampNeg (vp_nar .char (cI c))) 7 17 (R 7 17 + 1)
def wrL (R : Nat → Nat → Int32) (L : List Int32) : Nat → Nat → Int32 := L.foldl rWr R
theorem wr_app {L L2 : List Int32} : wrL R (L ++ L2) = wrL (wrL R L) L2 := List.foldl_append
theorem wr_one : wrL R [c] = rWr R c := rfl
theorem wr_0 : ∀ (L : List Int32) (R : Nat → Nat → Int32), (wrL R L) 0 = R 0 := by
  intro L
  induction L with
  | nil => intro R; rfl
  | cons c L ih => intro R; exact ih (rWr R c)
theorem wr_17 : ∀ (L : List Int32) (R : Nat → Nat → Int32) (l : Nat), R 7 17 = nI l → (wrL R L) 7 17 = nI (l + L.length) := by
  intro L
  induction L with
  | nil => intro R l h; exact h
  | cons c L ih =>
    intro R l h
    have := ih (rWr R c) (l + 1) (by show R 7 17 + 1 = _; rw [h, nI_1])
    rw [show l + (c :: L).length = l + 1 + L.length by simp only [List.length_cons]; omega]
    exact this
theorem c6_writes (hV : zV g) (hl : R 7 17 = nI l) (hlt : l < 40) : tX6_writes g [.ref m, .int c] (rput g m R M) nX6_writes 0 0 (zQv (rput g m (rWr R c) M)) := by
  refine eX6_writes hV ?_
  have hl2 : vp_in (R 7 17) 40 := vp_nI hl hlt (by decide)
  refine sX6_writes_0 rp_o rfl rfl rp_5 hl2 (by rw [ra_5]; exact rp_o) rfl (Nat.le_of_ble_eq_true rfl) ?_
  rw [ra_5, rs_17, rf_r]
  exact zqv rfl
def numT (n : Int32) : List Int32 := if n ≤ 9 then [48 + (n - n / 10 * 10)] else [48 + n / 10, 48 + (n - n / 10 * 10)]
theorem numT_len : (numT x).length ≤ 2 := by unfold numT; split <;> simp
theorem c6_writesNumber (hV : zV g) (hl : R 7 17 = nI l) (hlt : l + 2 ≤ 40) : tX6_writesNumber g [.ref m, .int x] (rput g m R M) nX6_writesNumber 0 0 (zQv (rput g m (wrL R (numT x)) M)) := by
  refine eX6_writesNumber hV ?_
  refine sX6_writesNumber_0 (fun c => ?_) (fun c => ?_)
  · refine sX6_writesNumber_17 (iX6_writesNumber_25 (c6_writes hV hl (by omega)) rp_is (zpv (sX6_writesNumber_28 (zqv ?_))))
    unfold numT; rw [if_pos c]; rfl
  · refine sX6_writesNumber_6 (iX6_writesNumber_14 (c6_writes hV hl (by omega)) rp_is (zpv ?_))
    refine sX6_writesNumber_17 (iX6_writesNumber_25 (c6_writes hV (l := l + 1) (by show R 7 17 + 1 = _; rw [hl, nI_1]) (by omega)) rp_is (zpv (sX6_writesNumber_28 (zqv ?_))))
    unfold numT; rw [if_neg c]; rfl
def chT (q : Nat → Int32) (i k : Nat) : List Int32 := ((if q (40 + 26 * i + k) = 0 then 97 else 65) - 1 + q (32 + 26 * i + k)) :: (if q (40 + 26 * i + k) ≤ 1 then [] else [if q (40 + 26 * i + k) = 2 then 39 else 33])
theorem chT_len {i k : Nat} : (chT q i k).length ≤ 2 := by unfold chT; by_cases h : q (40 + 26 * i + k) ≤ 1 <;> simp [h]
def lnT (q : Nat → Int32) (i : Nat) : Nat → List Int32
  | 0 => numT (q (22 + 26 * i)) ++ [58]
  | k + 1 => lnT q i k ++ chT q i k
theorem lnT_len {i : Nat} : ∀ k, (lnT q i k).length ≤ 3 + 2 * k := by
  intro k
  induction k with
  | zero => unfold lnT; have := numT_len (x := q (22 + 26 * i)); simp only [List.length_append, List.length_singleton]; omega
  | succ k ih => unfold lnT; have := chT_len (q := q) (i := i) (k := k); simp only [List.length_append]; omega
def rL0 (R : Nat → Nat → Int32) : Nat → Nat → Int32 := ru (rFail R 0) 7 17 0
def oLine (R : Nat → Nat → Int32) (s : Int32) : (Nat → Nat → Int32) × Int32 :=
  if fIsS (R 0) s = 0 then (rFail R 1, 0) else (wrL (rL0 R) (lnT (R 0) s.toNatClampNeg (gz (R 0) s.toNatClampNeg)), nI (lnT (R 0) s.toNatClampNeg (gz (R 0) s.toNatClampNeg)).length)
theorem c6_line (hV : zV g) (H : Inv (R 0) n S r) : tX6_line g [.ref m, .int s] (rput g m R M) nX6_line 0 0 (zQo g m M (oLine R s)) := by
  refine eX6_line hV ?_
  have hS8 := H.2.2.2.1
  by_cases hp : fIsS (R 0) s = 0
  · have e : oLine R s = (rFail R 1, 0) := if_pos hp
    repeat' (first
      | exact absurd hp c_6
      | exact absurd c_17 (by decide)
      | refine sX6_line_0 ?_
      | refine sX6_line_6 (fun c_6 => ?_) (fun c_6 => ?_)
      | refine sX6_line_9 ?_
      | refine sX6_line_13 ?_
      | refine sX6_line_17 (fun c_17 => ?_) (fun c_17 => ?_)
      | refine sX6_line_20 ?_
      | refine sX6_line_22 rp_o (Nat.le_of_ble_eq_true rfl) ?_
      | refine sX6_line_37 ?_
      | refine sX6_line_43 ?_
      | refine sX6_line_52 (fun c_52 => ?_) (fun c_52 => ?_)
      | refine sX6_line_55 ?_
      | refine sX6_line_61 (fun c_61 => ?_) (fun c_61 => ?_)
      | refine sX6_line_67 ?_
      | refine sX6_line_72 ?_
      | refine sX6_line_74 ?_
      | refine sX6_line_85 ?_
      | refine sX6_line_89 (fun c_89 => ?_) (fun c_89 => ?_)
      | refine sX6_line_94 (fun c_94 => ?_) (fun c_94 => ?_)
      | refine sX6_line_100 ?_
      | refine sX6_line_105 ?_
      | refine sX6_line_110 ?_
      | refine sX6_line_116 rp_o rfl ?_
      | refine iX6_line_3 (c6_isSheet hV) rp_is (zpr ?_)
      | refine iX6_line_14 (c6_fails hV) rp_is (zpr ?_)
      | refine iX6_line_31 (c6_of hV ?_) rp_is (zpr ?_)
      | refine iX6_line_49 (c6_of hV ?_) rp_is (zpr ?_)
      | refine iX6_line_58 (c6_mark hV ?_) rp_is (zpr ?_)
      | refine iX6_line_82 (c6_of hV ?_) rp_is (zpr ?_)
      | with_reducible exact zqi rfl
      | simp only [rs_4, rs_5, rs_6, rs_7, rs_8, rs_9, rs_10, rs_11, rs_12, rs_14, rs_15, rs_17, rs_18, rs_20, rf_r, ra_0, ra_1, ra_2, ra_3, ra_4, ra_5, ra_6, rFail_0]
      | fail)
    all_goals exact zqo e
  · have e : oLine R s = _ := if_neg hp
    obtain ⟨i, hi, rfl⟩ := H.isS.mp (fIs01S.resolve_left hp)
    rw [nI_clamp (by omega)] at e
    obtain ⟨hl, hz⟩ := H.sl hi
    have hsO := H.sok hi
    have v0 := hsO.a0
    repeat' (first
      | exact absurd c_6 hp
      | exact absurd c_17 (by decide)
      | refine sX6_line_0 ?_
      | refine sX6_line_6 (fun c_6 => ?_) (fun c_6 => ?_)
      | refine sX6_line_9 ?_
      | refine sX6_line_13 ?_
      | refine sX6_line_17 (fun c_17 => ?_) (fun c_17 => ?_)
      | refine sX6_line_20 ?_
      | refine sX6_line_37 ?_
      | refine sX6_line_43 ?_
      | refine sX6_line_52 (fun c_52 => ?_) (fun c_52 => ?_)
      | refine sX6_line_55 ?_
      | refine sX6_line_61 (fun c_61 => ?_) (fun c_61 => ?_)
      | refine sX6_line_67 ?_
      | refine sX6_line_72 ?_
      | refine sX6_line_74 ?_
      | refine sX6_line_85 ?_
      | refine sX6_line_89 (fun c_89 => ?_) (fun c_89 => ?_)
      | refine sX6_line_94 (fun c_94 => ?_) (fun c_94 => ?_)
      | refine sX6_line_100 ?_
      | refine sX6_line_105 ?_
      | refine sX6_line_110 ?_
      | refine sX6_line_116 rp_o rfl ?_
      | refine iX6_line_3 (c6_isSheet hV) rp_is (zpr ?_)
      | refine iX6_line_14 (c6_fails hV) rp_is (zpr ?_)
      | refine iX6_line_31 (c6_of hV ?_) rp_is (zpr ?_)
      | refine iX6_line_49 (c6_of hV ?_) rp_is (zpr ?_)
      | refine iX6_line_58 (c6_mark hV ?_) rp_is (zpr ?_)
      | refine iX6_line_82 (c6_of hV ?_) rp_is (zpr ?_)
      | with_reducible exact zqi rfl
      | simp only [rs_4, rs_5, rs_6, rs_7, rs_8, rs_9, rs_10, rs_11, rs_12, rs_14, rs_15, rs_17, rs_18, rs_20, rf_r, ra_0, ra_1, ra_2, ra_3, ra_4, ra_5, ra_6, rFail_0]
      | fail)
    refine sX6_line_22 rp_o (Nat.le_of_ble_eq_true rfl) ?_
    rw [rs_17, rf_r]
    refine iX6_line_31 (c6_of (R := rL0 R) hV v0) rp_is (zpr ?_)
    rw [show (rL0 R) 0 = R 0 from rfl, fOf_0 _ (by omega)]
    refine iX6_line_34 (c6_writesNumber (R := rL0 R) hV (l := 0) rfl (by decide)) rp_is (zpv (sX6_line_37 ?_))
    have h17 := wr_17 (numT (R 0 (22 + 26 * i))) (rL0 R) 0 rfl
    have hn2 := numT_len (x := R 0 (22 + 26 * i))
    refine iX6_line_40 (c6_writes hV h17 (by omega)) rp_is (zpv (sX6_line_43 ?_))
    rw [← wr_one, ← wr_app]
    have key := zdown (P := fun k => ∀ o, Z g kX6_line (zQo g m M (oLine R (nI i))) nX6_line 0 0 (rput g m (wrL (rL0 R) (lnT (R 0) i k)) M) 45 [some (.ref m), some (.int (nI i)), some (.int (nI k)), o] []) (gz (R 0) i) (fun o => ?_) (fun k hk ih o => ?_) 0 (Nat.zero_le _)
    · exact key _
    · refine sX6_line_45 (iX6_line_49 (c6_of (R := wrL (rL0 R) _) hV hsO.a1) rp_is (zpr ?_))
      rw [wr_0, show (rL0 R) 0 = R 0 from rfl, hl]
      refine sX6_line_52 (fun _ => ?_) (fun c => absurd (Int32.le_refl _) c)
      refine sX6_line_116 rp_o rfl ?_
      have := wr_17 (lnT (R 0) i (gz (R 0) i)) (rL0 R) 0 rfl
      rw [Nat.zero_add] at this
      rw [this]
      exact zqo e
    · have hkO : KOk (nI k) := ⟨k, by omega, rfl⟩
      have h17 := wr_17 (lnT (R 0) i k) (rL0 R) 0 rfl
      have hn3 := lnT_len (q := R 0) (i := i) k
      refine sX6_line_45 (iX6_line_49 (c6_of (R := wrL (rL0 R) _) hV hsO.a1) rp_is (zpr ?_))
      rw [wr_0, show (rL0 R) 0 = R 0 from rfl, hl]
      refine sX6_line_52 (fun c => absurd c (nI_ge hk (by omega))) (fun _ => ?_)
      refine sX6_line_55 (iX6_line_58 (c6_mark (R := wrL (rL0 R) _) hV (hkO.k18 hsO)) rp_is (zpr ?_))
      rw [wr_0, show (rL0 R) 0 = R 0 from rfl, fOf_18 _ _ (by omega)]
      have rest : ∀ v, v = (if R 0 (40 + 26 * i + k) = 0 then 97 else 65) → Z g kX6_line (zQo g m M (oLine R (nI i))) nX6_line 0 0 (rput g m (wrL (rL0 R) (lnT (R 0) i k)) M) 74 [some (.ref m), some (.int (nI i)), some (.int (nI k)), some (.int (R 0 (40 + 26 * i + k)))] [.int v, .ref m] := by
        rintro v rfl
        refine sX6_line_74 (iX6_line_82 (c6_of (R := wrL (rL0 R) _) hV (hkO.k10 hsO)) rp_is (zpr ?_))
        rw [wr_0, show (rL0 R) 0 = R 0 from rfl, fOf_10 _ _ (by omega)]
        refine sX6_line_85 (iX6_line_86 (c6_writes hV h17 (by omega)) rp_is (zpv ?_))
        have ih2 : ∀ o, Z g kX6_line (zQo g m M (oLine R (nI i))) nX6_line 0 0 (rput g m (wrL (rL0 R) (lnT (R 0) i k ++ chT (R 0) i k)) M) 45 [some (.ref m), some (.int (nI i)), some (.int (nI (k + 1))), o] [] := ih
        unfold chT at ih2
        refine sX6_line_89 (fun c => ?_) (fun c => ?_)
        · rw [if_pos c, wr_app, wr_one] at ih2
          refine sX6_line_110 ?_
          rw [nI_1]
          exact ih2 _
        · rw [if_neg c, wr_app] at ih2
          refine sX6_line_94 (fun c2 => sX6_line_105 ?_) (fun c2 => sX6_line_100 ?_)
          · rw [if_neg c2] at ih2
            refine iX6_line_107 (c6_writes hV (l := 0 + (lnT (R 0) i k).length + 1) (by show _ + 1 = _; rw [h17, nI_1]) (by omega)) rp_is (zpv (sX6_line_110 ?_))
            rw [nI_1]
            exact ih2 _
          · rw [if_pos c2] at ih2
            refine iX6_line_107 (c6_writes hV (l := 0 + (lnT (R 0) i k).length + 1) (by show _ + 1 = _; rw [h17, nI_1]) (by omega)) rp_is (zpv (sX6_line_110 ?_))
            rw [nI_1]
            exact ih2 _
      exact sX6_line_61 (fun c => sX6_line_72 (rest _ (if_neg c).symm)) (fun c => sX6_line_67 (rest _ (if_pos c).symm))
def hlT (q : Nat → Int32) (i : Nat) : List Int32 := numT (nI i) ++ [36] ++ numT (q (10 + 3 * i)) ++ [126] ++ numT (q (11 + 3 * i)) ++ (if q (11 + 3 * i) ≤ 20 then [] else [42])
def oHLine (R : Nat → Nat → Int32) (h : Int32) : (Nat → Nat → Int32) × Int32 :=
  if fIsH (R 0) h = 0 then (rFail R 1, 0) else (wrL (rL0 R) (hlT (R 0) h.toNatClampNeg), nI (hlT (R 0) h.toNatClampNeg).length)
theorem c6_houseLine (hV : zV g) (H : Inv (R 0) n S r) : tX6_houseLine g [.ref m, .int h] (rput g m R M) nX6_houseLine 0 0 (zQo g m M (oHLine R h)) := by
  refine eX6_houseLine hV ?_
  have hS8 := H.2.1
  by_cases hp : fIsH (R 0) h = 0
  · have e : oHLine R h = (rFail R 1, 0) := if_pos hp
    repeat' (first
      | exact absurd hp c_6
      | exact absurd c_17 (by decide)
      | refine sX6_houseLine_0 ?_
      | refine sX6_houseLine_6 (fun c_6 => ?_) (fun c_6 => ?_)
      | refine sX6_houseLine_9 ?_
      | refine sX6_houseLine_13 ?_
      | refine sX6_houseLine_17 (fun c_17 => ?_) (fun c_17 => ?_)
      | refine sX6_houseLine_20 ?_
      | refine sX6_houseLine_22 rp_o (Nat.le_of_ble_eq_true rfl) ?_
      | refine sX6_houseLine_32 ?_
      | refine sX6_houseLine_38 ?_
      | refine sX6_houseLine_48 ?_
      | refine sX6_houseLine_54 ?_
      | refine sX6_houseLine_64 ?_
      | refine sX6_houseLine_69 (fun c_69 => ?_) (fun c_69 => ?_)
      | refine sX6_houseLine_72 ?_
      | refine sX6_houseLine_78 rp_o rfl ?_
      | refine iX6_houseLine_3 (c6_isHouse hV) rp_is (zpr ?_)
      | refine iX6_houseLine_14 (c6_fails hV) rp_is (zpr ?_)
      | refine iX6_houseLine_42 (c6_by hV ?_) rp_is (zpr ?_)
      | refine iX6_houseLine_58 (c6_by hV ?_) rp_is (zpr ?_)
      | refine iX6_houseLine_66 (c6_isAshamed hV ?_) rp_is (zpr ?_)
      | with_reducible exact zqi rfl
      | simp only [rs_4, rs_5, rs_6, rs_7, rs_8, rs_9, rs_10, rs_11, rs_12, rs_14, rs_15, rs_17, rs_18, rs_20, rf_r, ra_0, ra_1, ra_2, ra_3, ra_4, ra_5, ra_6, rFail_0]
      | fail)
    all_goals exact zqo e
  · have e : oHLine R h = _ := if_neg hp
    obtain ⟨i, hi, rfl⟩ := H.isH.mp (fIs01H.resolve_left hp)
    rw [nI_clamp (by omega)] at e
    have hO := H.hok hi
    repeat' (first
      | exact absurd c_6 hp
      | exact absurd c_17 (by decide)
      | refine sX6_houseLine_0 ?_
      | refine sX6_houseLine_6 (fun c_6 => ?_) (fun c_6 => ?_)
      | refine sX6_houseLine_9 ?_
      | refine sX6_houseLine_13 ?_
      | refine sX6_houseLine_17 (fun c_17 => ?_) (fun c_17 => ?_)
      | refine sX6_houseLine_20 ?_
      | refine sX6_houseLine_32 ?_
      | refine sX6_houseLine_38 ?_
      | refine sX6_houseLine_48 ?_
      | refine sX6_houseLine_54 ?_
      | refine sX6_houseLine_64 ?_
      | refine sX6_houseLine_69 (fun c_69 => ?_) (fun c_69 => ?_)
      | refine sX6_houseLine_72 ?_
      | refine sX6_houseLine_78 rp_o rfl ?_
      | refine iX6_houseLine_3 (c6_isHouse hV) rp_is (zpr ?_)
      | refine iX6_houseLine_14 (c6_fails hV) rp_is (zpr ?_)
      | refine iX6_houseLine_42 (c6_by hV ?_) rp_is (zpr ?_)
      | refine iX6_houseLine_58 (c6_by hV ?_) rp_is (zpr ?_)
      | refine iX6_houseLine_66 (c6_isAshamed hV ?_) rp_is (zpr ?_)
      | with_reducible exact zqi rfl
      | simp only [rs_4, rs_5, rs_6, rs_7, rs_8, rs_9, rs_10, rs_11, rs_12, rs_14, rs_15, rs_17, rs_18, rs_20, rf_r, ra_0, ra_1, ra_2, ra_3, ra_4, ra_5, ra_6, rFail_0]
      | fail)
    refine sX6_houseLine_22 rp_o (Nat.le_of_ble_eq_true rfl) ?_
    rw [rs_17, rf_r]
    have hr0 : (rL0 R) 0 = R 0 := rfl
    have hn1 := numT_len (x := nI i)
    have hn2 := numT_len (x := R 0 (10 + 3 * i))
    have hn3 := numT_len (x := R 0 (11 + 3 * i))
    refine iX6_houseLine_29 (c6_writesNumber (R := rL0 R) hV (l := 0) rfl (by decide)) rp_is (zpv (sX6_houseLine_32 ?_))
    refine iX6_houseLine_35 (c6_writes hV (wr_17 _ (rL0 R) 0 rfl) (by omega)) rp_is (zpv (sX6_houseLine_38 ?_))
    rw [← wr_one, ← wr_app]
    refine iX6_houseLine_42 (c6_by (R := wrL (rL0 R) _) hV hO.a0) rp_is (zpr ?_)
    rw [wr_0, hr0, fBy_0 _ (by omega)]
    refine iX6_houseLine_45 (c6_writesNumber hV (wr_17 _ (rL0 R) 0 rfl) (by simp only [List.length_append, List.length_singleton]; omega)) rp_is (zpv (sX6_houseLine_48 ?_))
    rw [← wr_app]
    refine iX6_houseLine_51 (c6_writes hV (wr_17 _ (rL0 R) 0 rfl) (by simp only [List.length_append, List.length_singleton]; omega)) rp_is (zpv (sX6_houseLine_54 ?_))
    rw [← wr_one, ← wr_app]
    refine iX6_houseLine_58 (c6_by (R := wrL (rL0 R) _) hV hO.a1) rp_is (zpr ?_)
    rw [wr_0, hr0, fBy_1 _ (by omega)]
    refine iX6_houseLine_61 (c6_writesNumber hV (wr_17 _ (rL0 R) 0 rfl) (by simp only [List.length_append, List.length_singleton]; omega)) rp_is (zpv (sX6_houseLine_64 ?_))
    rw [← wr_app]
    refine iX6_houseLine_66 (c6_isAshamed (R := wrL (rL0 R) _) hV hO) rp_is (zpr ?_)
    rw [wr_0, hr0]
    have ea : fAsh (R 0) (nI i) = bI (¬ R 0 (11 + 3 * i) ≤ 20) := by unfold fAsh; rw [fBy_1 _ (by omega)]
    rw [ea]
    unfold hlT at e
    refine sX6_houseLine_69 (fun c => ?_) (fun c => ?_)
    · have c' : R 0 (11 + 3 * i) ≤ 20 := Decidable.not_not.mp (bI_no c)
      rw [if_pos c', List.append_nil] at e
      refine sX6_houseLine_78 rp_o rfl ?_
      rw [wr_17 _ (rL0 R) 0 rfl, Nat.zero_add]
      exact zqo e
    · have c' : ¬ R 0 (11 + 3 * i) ≤ 20 := bI_yes c
      rw [if_neg c'] at e
      refine sX6_houseLine_72 (iX6_houseLine_75 (c6_writes hV (wr_17 _ (rL0 R) 0 rfl) (by simp only [List.length_append, List.length_singleton]; omega)) rp_is (zpv ?_))
      rw [← wr_one, ← wr_app]
      refine sX6_houseLine_78 rp_o rfl ?_
      rw [wr_17 _ (rL0 R) 0 rfl, Nat.zero_add]
      exact zqo e
end RZ
