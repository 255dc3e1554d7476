/-! ErrataPressModel: edition -/
section RU
variable {g : ZG} {m : Nat} {R K : Nat → Nat → Int32} {M : ZM} {s w h k x y c : Int32} {n S r : Nat} {q f : Nat → Int32}
/-- f is q but for coins, shames, fines, sums, marks -/
def Fx (q f : Nat → Int32) : Prop := ∀ i, (i < 5 ∨ 230 ≤ i ∨ (22 ≤ i ∧ i < 230 ∧ (i - 22) % 26 < 18)) → f i = q i
theorem Fx.refl : Fx q q := fun _ _ => rfl
theorem Fx.upd {i : Nat} {x : Int32} (h : Fx q f) (hi : ¬ (i < 5 ∨ 230 ≤ i ∨ (22 ≤ i ∧ i < 230 ∧ (i - 22) % 26 < 18))) : Fx q (upd f i x) := by
  intro j hj
  rw [upd_n (by rintro rfl; exact hi hj)]
  exact h j hj
theorem zor_congr {f f2 : Nat → Int32} : ∀ n, (∀ j, j < n → f j = f2 j) → zor f n = zor f2 n := by
  intro n
  induction n with
  | zero => intro _; rfl
  | succ n ih => intro h; show zor f n ||| f n = zor f2 n ||| f2 n; rw [ih (fun j hj => h j (by omega)), h n (by omega)]
theorem zsum_congr {f f2 : Nat → Int32} : ∀ n, (∀ j, j < n → f j = f2 j) → zsum f n = zsum f2 n := by
  intro n
  induction n with
  | zero => intro _; rfl
  | succ n ih => intro h; show zsum f n + f n = zsum f2 n + f2 n; rw [ih (fun j hj => h j (by omega)), h n (by omega)]
theorem fLaughs_of {f f2 : Nat → Int32} {s k : Int32} (h : fLs f2 s k = fLs f s k) : fLaughs f2 s k = fLaughs f s k := by unfold fLaughs; rw [h]
def edSt (q : Nat → Int32) (p : (Nat → Int32) × Int32) (s k : Nat) : (Nat → Int32) × Int32 :=
  if p.1 (40 + 26 * s + k) = 2 then
    (upd (upd (upd (upd p.1 (11 + 3 * (q (22 + 26 * s)).toNatClampNeg) (fAtMost (p.1 (11 + 3 * (q (22 + 26 * s)).toNatClampNeg) + fBad q (nI s) (nI k)) 99)) (10 + 3 * (q (22 + 26 * s)).toNatClampNeg) (fAtMost (p.1 (10 + 3 * (q (22 + 26 * s)).toNatClampNeg) + fLaughs p.1 (nI s) (nI k)) 99)) (40 + 26 * s + k) 3) 5 (p.1 5 + 1), p.2 + fLaughs p.1 (nI s) (nI k))
  else p
def edK (q : Nat → Int32) (p : (Nat → Int32) × Int32) (s : Nat) : Nat → (Nat → Int32) × Int32
  | 0 => p
  | k + 1 => edSt q (edK q p s k) s k
def edS (q : Nat → Int32) : Nat → (Nat → Int32) × Int32
  | 0 => (q, 0)
  | s + 1 => edK q (edS q s) s (gz q s)
theorem edSt_Fx {p : (Nat → Int32) × Int32} {s k : Nat} (h : Fx q p.1) (hs : s < 8) (hk : k < 8) (ho : (q (22 + 26 * s)).toNatClampNeg < 4) : Fx q (edSt q p s k).1 := by
  unfold edSt
  split
  · exact (((h.upd (by omega)).upd (by omega)).upd (by omega)).upd (by omega)
  · exact h
theorem edK_Fx {p : (Nat → Int32) × Int32} {s : Nat} (h : Fx q p.1) (hs : s < 8) (ho : (q (22 + 26 * s)).toNatClampNeg < 4) : ∀ k, k ≤ 8 → Fx q (edK q p s k).1 := by
  intro k
  induction k with
  | zero => intro _; exact h
  | succ k ih => intro hk; exact edSt_Fx (ih (by omega)) hs (by omega) ho
theorem Inv.ow (H : Inv q n S r) {i : Nat} (hi : i < S) : (q (22 + 26 * i)).toNatClampNeg < n ∧ q (22 + 26 * i) = nI (q (22 + 26 * i)).toNatClampNeg := by
  obtain ⟨o, ho, e, -⟩ := H.own hi
  have hn := H.2.1
  have : (q (22 + 26 * i)).toNatClampNeg = o := cl_nI e (by omega)
  rw [this]; exact ⟨ho, e⟩
theorem edS_Fx (H : Inv q n S r) : ∀ s, s ≤ S → Fx q (edS q s).1 := by
  intro s
  have hS := H.2.2.2.1
  have hn := H.2.1
  induction s with
  | zero => intro _; exact Fx.refl
  | succ s ih => intro hs; exact edK_Fx (ih (by omega)) (by omega) (by have := (H.ow (i := s) (by omega)).1; omega) _ (H.gzz (by omega)).2.2.1
theorem Fx.bad (h : Fx q f) {s k : Nat} (hs : s < 8) (hk : k < 8) : fBad f (nI s) (nI k) = fBad q (nI s) (nI k) := by
  unfold fBad
  rw [fOf_10 _ _ (by omega), fOf_2 _ _ (by omega), fOf_10 _ _ (by omega), fOf_2 _ _ (by omega), h _ (by omega), h _ (by omega)]
/-- who laughs: readers, letters and the mark -/
theorem fLs_of {f2 : Nat → Int32} {s k : Nat} (hs : s < 8) (hk : k < 8) (h : Fx q f) (h2 : Fx q f2) (hm : f2 (40 + 26 * s + k) = f (40 + 26 * s + k)) (hr : GR q) : fLs f2 (nI s) (nI k) = fLs f (nI s) (nI k) := by
  obtain ⟨r, hr5, hr⟩ := hr
  unfold fLs
  rw [fOf_18 _ _ (by omega), fOf_18 _ _ (by omega), hm, h 2 (by omega), h2 2 (by omega), hr, nI_clamp (by omega)]
  split
  · rfl
  · refine zor_congr _ (fun j hj => ?_)
    have e0 : (230 + 2 * nI j : Int32) = nI (230 + 2 * j) := by rw [show (2 : Int32) = nI 2 from rfl, pk_mul, show (230 : Int32) = nI 230 from rfl, nI_add]
    have e1 : (nI (230 + 2 * j) + 1 : Int32) = nI (231 + 2 * j) := by rw [show (1 : Int32) = nI 1 from rfl, nI_add]; congr 1; omega
    unfold fLaughs1
    rw [h.bad hs hk, h2.bad hs hk, e0, e1, nI_clamp (by omega), nI_clamp (by omega), fOf_10 _ _ (by omega), fOf_10 _ _ (by omega), h (230 + 2 * j) (by omega), h2 (230 + 2 * j) (by omega), h (231 + 2 * j) (by omega), h2 (231 + 2 * j) (by omega), h (32 + 26 * s + k) (by omega), h2 (32 + 26 * s + k) (by omega)]
def gEd (q : Nat → Int32) (S : Nat) : Nat → Int32 := upd (upd (edS q S).1 6 (q 6 + (edS q S).2)) 4 (q 4 + 1)
def oEd (R : Nat → Nat → Int32) (S : Nat) : (Nat → Nat → Int32) × Int32 :=
  if fPrintable (R 0) = 0 then (rRef R 1 8 (R 0 4), 0) else (rrow (rKeep R 0) 0 (gEd (R 0) S), (edS (R 0) S).2)
theorem ed6 (H : Inv q n S r) {i : Nat} (h : i = 4 ∨ i = 6) : ∀ s, s ≤ S → (edS q s).1 i = q i := by
  have hS := H.2.2.2.1
  have hn := H.2.1
  intro s
  induction s with
  | zero => intro _; rfl
  | succ s ih =>
    intro hs
    have ho := (H.ow (i := s) (by omega)).1
    have : ∀ k, k ≤ 8 → (edK q (edS q s) s k).1 i = q i := by
      intro k
      induction k with
      | zero => intro _; exact ih (by omega)
      | succ k ih2 =>
        intro hk
        show (edSt q (edK q (edS q s) s k) s k).1 i = q i
        unfold edSt
        split
        · simp only
          rw [upd_n (by omega), upd_n (by omega), upd_n (by omega), upd_n (by omega)]
          exact ih2 (by omega)
        · exact ih2 (by omega)
    exact this _ (H.gzz (by omega)).2.2.1
theorem c6_edition (hV : zV g) (H : Inv (R 0) n S r) (hc : Ch R) : tX6_edition g [.ref m] (rput g m R M) nX6_edition 0 0 (zQo g m M (oEd R S)) := by
  have hS : R 0 1 = nI S := H.2.2.1
  have hS8 := H.2.2.2.1
  have hn4 := H.2.1
  refine eX6_edition hV ?_
  have hG := H.gse
  repeat' (first
    | with_reducible exact hG
    | with_reducible exact vl4
    | refine sX6_edition_0 ?_
    | refine sX6_edition_4 (fun c_4 => ?_) (fun c_4 => ?_)
    | refine sX6_edition_7 rp_o rfl rp_0 ?_ ?_
    | refine sX6_edition_20 ?_
    | refine sX6_edition_21 rp_o rfl ?_
    | refine sX6_edition_29 ?_
    | refine sX6_edition_43 ?_
    | refine sX6_edition_52 (fun c_52 => ?_) (fun c_52 => ?_)
    | refine sX6_edition_55 ?_
    | refine sX6_edition_61 (fun c_61 => ?_) (fun c_61 => ?_)
    | refine sX6_edition_65 ?_
    | refine sX6_edition_68 ?_
    | refine sX6_edition_75 ?_
    | refine sX6_edition_85 ?_
    | refine sX6_edition_92 ?_
    | refine sX6_edition_102 ?_
    | refine sX6_edition_109 ?_
    | refine sX6_edition_121 rp_o rfl rp_0 ?_ ?_
    | refine sX6_edition_131 ?_
    | refine sX6_edition_137 ?_
    | refine sX6_edition_143 rp_o rfl rp_0 ?_ rp_o rfl rp_0 ?_ ?_
    | refine iX6_edition_1 (c6_printable hV ?_) rp_is (zpr ?_)
    | refine iX6_edition_17 (c6_refuses hV) rp_is (zpr ?_)
    | refine iX6_edition_49 (c6_of hV ?_) rp_is (zpr ?_)
    | refine iX6_edition_58 (c6_mark hV ?_) rp_is (zpr ?_)
    | refine iX6_edition_72 (c6_of hV ?_) rp_is (zpr ?_)
    | refine iX6_edition_79 (c6_bad hV ?_ ?_) rp_is (zpr ?_)
    | refine iX6_edition_82 (c6_gets hV ?_) rp_is (zpv ?_)
    | refine iX6_edition_89 (c6_of hV ?_) rp_is (zpr ?_)
    | refine iX6_edition_96 (c6_laughs hV ?_ ?_ ?_) rp_is (zpr ?_)
    | refine iX6_edition_99 (c6_gets hV ?_) rp_is (zpv ?_)
    | refine iX6_edition_106 (c6_laughs hV ?_ ?_ ?_) rp_is (zpr ?_)
    | refine iX6_edition_118 (c6_lays hV ?_) rp_is (zpv ?_)
    | with_reducible exact zqi rfl
    | simp only [rs_4, rs_5, rs_6, rs_7, rs_8, rs_9, rs_10, rs_11, rs_12, rs_14, rs_15, rs_17, rs_18, rs_20, rf_r, ra_0, ra_1, ra_2, ra_3, ra_4, ra_5, ra_6, rFail_0]
    | fail)
  · refine iX6_edition_26 (c6_keeps0 hV hc) rp_is (zpv ?_)
    rw [rkb]
    refine sX6_edition_29 ?_
    have e1 : (1 : Int32).toNatClampNeg = 1 := rfl
    have key := zdown (P := fun s => ∀ o3 : Option Value, Z g kX6_edition (zQo g m M (oEd R S)) nX6_edition 0 0 (rput g m (rrow (rKeep R 0) 0 (edS (R 0) s).1) M) 33 [some (.ref m), some (.int (edS (R 0) s).2), some (.int (nI s)), o3] []) S (fun o3 => ?_) (fun s hs ih o3 => ?_) 0 (Nat.zero_le _)
    · exact key _
    · have hF := edS_Fx H S (Nat.le_refl _)
      refine sX6_edition_33 rp_o rfl kr_0 vl1 (fun _ => ?_) (fun c => absurd (by rw [e1, hF 1 (by omega), hS]; exact Int32.le_refl _) c)
      refine sX6_edition_143 rp_o rfl kr_0 vl6 (by rw [kr_c]; exact rp_o) rfl (by rw [kr_c]; exact kr_0) vl4 ?_
      rw [kr_c, kr_c]
      refine zqo ?_
      unfold oEd gEd
      rw [if_neg c_4, show (6 : Int32).toNatClampNeg = 6 from rfl, show (4 : Int32).toNatClampNeg = 4 from rfl, upd_n (by decide), ed6 H (Or.inl rfl) S (Nat.le_refl _), ed6 H (Or.inr rfl) S (Nat.le_refl _)]
    · have hF := edS_Fx H s (by omega)
      have hz := H.gzz hs
      obtain ⟨ho, eo⟩ := H.ow hs
      refine sX6_edition_33 rp_o rfl kr_0 vl1 (fun c => absurd c (by rw [e1, hF 1 (by omega), hS]; exact nI_ge hs (by omega))) (fun _ => ?_)
      refine sX6_edition_43 ?_
      have key2 := zdown (P := fun k => Z g kX6_edition (zQo g m M (oEd R S)) nX6_edition 0 0 (rput g m (rrow (rKeep R 0) 0 (edK (R 0) (edS (R 0) s) s k).1) M) 45 [some (.ref m), some (.int (edK (R 0) (edS (R 0) s) s k).2), some (.int (nI s)), some (.int (nI k))] []) (gz (R 0) s) ?_ (fun k hk ihk => ?_) 0 (Nat.zero_le _)
      · exact key2
      · have hF2 : Fx (R 0) (edK (R 0) (edS (R 0) s) s (gz (R 0) s)).1 := edS_Fx H (s + 1) (by omega)
        refine sX6_edition_45 ?_
        refine iX6_edition_49 (c6_of (R := rrow (rKeep R 0) 0 (edK (R 0) (edS (R 0) s) s (gz (R 0) s)).1) hV (by rw [show (1 : Int32) = nI 1 from rfl, ixS]; exact vl (by omega))) rp_is (zpr ?_)
        rw [rrow_s, fOf_1 _ (by omega), hF2 _ (by omega), hz.1]
        refine sX6_edition_52 (fun _ => ?_) (fun c => absurd (Int32.le_refl _) c)
        refine sX6_edition_137 ?_
        rw [nI_1]
        exact ih _
      · have hk8 : k < 8 := by omega
        have hF2 : Fx (R 0) (edK (R 0) (edS (R 0) s) s k).1 := edK_Fx hF (by omega) (by omega) k (by omega)
        refine sX6_edition_45 ?_
        refine iX6_edition_49 (c6_of (R := rrow (rKeep R 0) 0 (edK (R 0) (edS (R 0) s) s k).1) hV (by rw [show (1 : Int32) = nI 1 from rfl, ixS]; exact vl (by omega))) rp_is (zpr ?_)
        rw [rrow_s, fOf_1 _ (by omega), hF2 _ (by omega), hz.1]
        refine sX6_edition_52 (fun c => absurd c (nI_ge hk (by omega))) (fun _ => ?_)
        refine sX6_edition_55 ?_
        refine iX6_edition_58 (c6_mark (R := rrow (rKeep R 0) 0 (edK (R 0) (edS (R 0) s) s k).1) hV (vp_nI (ix18 s k) (by omega) (by decide))) rp_is (zpr ?_)
        rw [rrow_s, fOf_18 _ _ (by omega)]
        have ihk2 : Z g kX6_edition (zQo g m M (oEd R S)) nX6_edition 0 0 (rput g m (rrow (rKeep R 0) 0 (edSt (R 0) (edK (R 0) (edS (R 0) s) s k) s k).1) M) 45 [some (.ref m), some (.int (edSt (R 0) (edK (R 0) (edS (R 0) s) s k) s k).2), some (.int (nI s)), some (.int (nI (k + 1)))] [] := ihk
        clear ihk
        generalize hp : edK (R 0) (edS (R 0) s) s k = p at *
        unfold edSt at ihk2
        refine sX6_edition_61 (fun c => ?_) (fun c => ?_)
        · rw [if_pos c] at ihk2
          refine sX6_edition_68 ?_
          have fo : ∀ f : Nat → Int32, Fx (R 0) f → fOf f (nI s) 0 = nI (R 0 (22 + 26 * s)).toNatClampNeg := fun f hf => by rw [fOf_0 _ (by omega), hf _ (by omega)]; exact eo
          have v0 : ∀ f : Nat → Int32, vp_in (22 + 26 * nI s + 0) 240 := fun _ => by rw [show (0 : Int32) = nI 0 from rfl, ixS]; exact vl (by omega)
          have hkO : KOk (nI k) := ⟨k, hk8, rfl⟩
          have hsO : ∀ f : Nat → Int32, Fx (R 0) f → SOk f (nI s) := fun f hf => SOk_of (by omega) (H.sok hs) (hf _ (by omega))
          have hr : ∀ f : Nat → Int32, Fx (R 0) f → GR f := fun f hf => by
            obtain ⟨r, h5, e⟩ := H.gr
            exact ⟨r, h5, by rw [hf 2 (by omega)]; exact e⟩
          refine iX6_edition_72 (c6_of (R := rrow (rKeep R 0) 0 p.1) hV (v0 p.1)) rp_is (zpr ?_)
          rw [rrow_s, fo _ hF2]
          refine sX6_edition_75 ?_
          refine iX6_edition_79 (c6_bad (R := rrow (rKeep R 0) 0 p.1) hV (vp_nI (ix10 s k) (by omega) (by decide)) (vp_nI (ix2 s k) (by omega) (by decide))) rp_is (zpr ?_)
          rw [rrow_s, hF2.bad (by omega) hk8]
          refine iX6_edition_82 (c6_getsr hV (ixH1 _) (by omega)) rp_is (zpv ?_)
          refine sX6_edition_85 ?_
          generalize hoo : (R 0 (22 + 26 * s)).toNatClampNeg = o at *
          have hF3 : Fx (R 0) (upd p.1 (11 + 3 * o) (fAtMost (p.1 (11 + 3 * o) + fBad (R 0) (nI s) (nI k)) 99)) := hF2.upd (by omega)
          have hL3 : fLs (upd p.1 (11 + 3 * o) (fAtMost (p.1 (11 + 3 * o) + fBad (R 0) (nI s) (nI k)) 99)) (nI s) (nI k) = fLs p.1 (nI s) (nI k) := fLs_of (by omega) hk8 hF2 hF3 (upd_n (by omega)) H.gr
          refine iX6_edition_89 (c6_of (R := rrow (rKeep R 0) 0 _) hV (v0 p.1)) rp_is (zpr ?_)
          rw [rrow_s, fo _ hF3]
          refine sX6_edition_92 ?_
          refine iX6_edition_96 (c6_laughs (R := rrow (rKeep R 0) 0 _) hV (by rw [rrow_s]; exact hsO _ hF3) hkO (by rw [rrow_s]; exact hr _ hF3)) rp_is (zpr ?_)
          rw [rrow_s]
          have hL3' : fLaughs (upd p.1 (11 + 3 * o) (fAtMost (p.1 (11 + 3 * o) + fBad (R 0) (nI s) (nI k)) 99)) (nI s) (nI k) = fLaughs p.1 (nI s) (nI k) := fLaughs_of hL3
          rw [hL3']
          refine iX6_edition_99 (c6_getsr hV (ixH0 _) (by omega)) rp_is (zpv ?_)
          rw [upd_n (show 10 + 3 * o ≠ 11 + 3 * o by omega)]
          refine sX6_edition_102 ?_
          have hF4 : Fx (R 0) (upd (upd p.1 (11 + 3 * o) (fAtMost (p.1 (11 + 3 * o) + fBad (R 0) (nI s) (nI k)) 99)) (10 + 3 * o) (fAtMost (p.1 (10 + 3 * o) + fLaughs p.1 (nI s) (nI k)) 99)) := hF3.upd (by omega)
          refine iX6_edition_106 (c6_laughs (R := rrow (rKeep R 0) 0 _) hV (by rw [rrow_s]; exact hsO _ hF4) hkO (by rw [rrow_s]; exact hr _ hF4)) rp_is (zpr ?_)
          rw [rrow_s]
          have hL4 : fLs (upd (upd p.1 (11 + 3 * o) (fAtMost (p.1 (11 + 3 * o) + fBad (R 0) (nI s) (nI k)) 99)) (10 + 3 * o) (fAtMost (p.1 (10 + 3 * o) + fLaughs p.1 (nI s) (nI k)) 99)) (nI s) (nI k) = fLs p.1 (nI s) (nI k) := fLs_of (by omega) hk8 hF2 hF4 (by rw [upd_n (by omega), upd_n (by omega)]) H.gr
          have hL4' : fLaughs (upd (upd p.1 (11 + 3 * o) (fAtMost (p.1 (11 + 3 * o) + fBad (R 0) (nI s) (nI k)) 99)) (10 + 3 * o) (fAtMost (p.1 (10 + 3 * o) + fLaughs p.1 (nI s) (nI k)) 99)) (nI s) (nI k) = fLaughs p.1 (nI s) (nI k) := fLaughs_of hL4
          rw [hL4']
          refine sX6_edition_109 ?_
          refine iX6_edition_118 (c6_laysr hV (ix18 s k) (by omega)) rp_is (zpv ?_)
          refine sX6_edition_121 rp_o rfl kr_0 vl5 ?_
          rw [kr_c, show (5 : Int32).toNatClampNeg = 5 from rfl, upd_n (show 5 ≠ 40 + 26 * s + k by omega), upd_n (show 5 ≠ 10 + 3 * o by omega), upd_n (show 5 ≠ 11 + 3 * o by omega)]
          refine sX6_edition_131 ?_
          rw [nI_1]
          exact ihk2
        · rw [if_neg c] at ihk2
          refine sX6_edition_65 (sX6_edition_131 ?_)
          rw [nI_1]
          exact ihk2
  · refine zqo ?_
    unfold oEd
    rw [if_pos c_4]; rfl
end RU
