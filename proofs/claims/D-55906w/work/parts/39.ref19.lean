/-! ErrataPressModel: character, append, meanShame, errorShare -/
section SA
variable {g : ZG} {m : Nat} {R K : Nat → Nat → Int32} {M : ZM} {s w h k x y c b d : Int32} {n S r l : Nat} {q f : Nat → Int32}
def oChar (R : Nat → Nat → Int32) (x : Int32) : (Nat → Nat → Int32) × Int32 := if 0 ≤ x ∧ x ≤ R 7 17 - 1 then (rFail R 0, R 5 x.toNatClampNeg) else (rFail R 1, 32)
theorem c6_character (hV : zV g) (hl : R 7 17 = nI l) (hl40 : l ≤ 40) (hch : ∀ i, i < l → narrow .char (.int (R 5 i)) = .int (R 5 i)) : tX6_character g [.ref m, .int x] (rput g m R M) nX6_character 0 0 (zQo g m M (oChar R x)) := by
  refine eX6_character hV ?_
  refine sX6_character_0 rp_o rfl (iX6_character_9 (c6_in hV) (zpr ?_))
  refine sX6_character_12 (fun c => ?_) (fun c => ?_)
  · refine sX6_character_19 (iX6_character_20 (c6_fails hV) rp_is (zpr ?_))
    refine sX6_character_23 (fun c => absurd c (by decide)) (fun _ => sX6_character_26 ?_)
    refine sX6_character_37 (by decide) (zqo ?_)
    unfold oChar
    rw [if_neg (bI_no c)]
  · have hx := bI_yes c
    have hx2 : 0 ≤ x ∧ x ≤ nI l - 1 := by rw [← hl]; exact hx
    obtain ⟨j, hj, rfl⟩ := rng (by omega) hx2.1 hx2.2
    have ej : (nI j).toNatClampNeg = j := nI_clamp (by omega)
    refine sX6_character_15 (iX6_character_20 (c6_fails hV) rp_is (zpr ?_))
    refine sX6_character_23 (fun _ => ?_) (fun c => absurd (by decide) c)
    refine sX6_character_31 rp_o rfl rp_5 (vp_in_nI (by omega) (by decide)) ?_
    rw [ej]
    refine sX6_character_37 (hch j hj) (zqo ?_)
    unfold oChar
    rw [if_pos hx, ej]; rfl
def oApp (R : Nat → Nat → Int32) (c : Int32) : (Nat → Nat → Int32) × Int32 :=
  if R 7 14 = 60 then (rFail R 1, 0) else (ru (ru (rFail R 0) 4 (R 7 14).toNatClampNeg c) 7 14 (R 7 14 + 1), R 7 14 + 1)
theorem c6_append (hV : zV g) (hl : R 7 14 = nI l) (hl60 : l ≤ 60) : tX6_append g [.ref m, .int c] (rput g m R M) nX6_append 0 0 (zQo g m M (oApp R c)) := by
  refine eX6_append hV ?_
  refine sX6_append_0 rp_o rfl (fun c0 => ?_) (fun c0 => ?_)
  · have c0' : ¬ R 7 14 = 60 := c0
    have : l ≠ 60 := fun e => c0' (by rw [hl, e]; rfl)
    refine sX6_append_14 (iX6_append_15 (c6_fails hV) rp_is (zpr ?_))
    refine sX6_append_18 (fun _ => ?_) (fun c => absurd (by decide) c)
    have hv : vp_in ((rFail R 0) 7 14) 60 := by rw [show (rFail R 0) 7 14 = nI l from hl]; exact vp_in_nI (by omega) (by decide)
    refine sX6_append_23 rp_o rfl rfl rp_4 hv (by rw [ra_4]; exact rp_o) rfl (Nat.le_of_ble_eq_true rfl) rfl ?_
    rw [ra_4, rs_14, rf_r]
    refine zqo ?_
    unfold oApp
    rw [if_neg c0']; rfl
  · refine sX6_append_10 (iX6_append_15 (c6_fails hV) rp_is (zpr ?_))
    refine sX6_append_18 (fun c => absurd c (by decide)) (fun _ => sX6_append_21 (zqo ?_))
    unfold oApp
    rw [if_pos (show R 7 14 = 60 from c0)]
theorem zsum_nI {f : Nat → Int32} {a : Nat → Nat} (c : Nat) : ∀ n, (∀ j, j < n → f j = nI (a j) ∧ a j ≤ c) → ∃ t, t ≤ c * n ∧ zsum f n = nI t := by
  intro n
  induction n with
  | zero => intro _; exact ⟨0, Nat.zero_le _, rfl⟩
  | succ n ih =>
    intro h
    obtain ⟨t, ht, e⟩ := ih (fun j hj => h j (by omega))
    obtain ⟨e2, h2⟩ := h n (by omega)
    exact ⟨t + a n, by rw [Nat.mul_succ]; omega, by show zsum f n + f n = _; rw [e, e2, nI_add]⟩
theorem zsum_ex {f : Nat → Int32} (c : Nat) : ∀ n, (∀ j, j < n → ∃ a, a ≤ c ∧ f j = nI a) → ∃ t, t ≤ c * n ∧ zsum f n = nI t := by
  intro n
  induction n with
  | zero => intro _; exact ⟨0, Nat.zero_le _, rfl⟩
  | succ n ih =>
    intro h
    obtain ⟨t, ht, e⟩ := ih (fun j hj => h j (by omega))
    obtain ⟨a, h2, e2⟩ := h n (by omega)
    exact ⟨t + a, by rw [Nat.mul_succ]; omega, by show zsum f n + f n = _; rw [e, e2, nI_add]⟩
theorem bI_ex (p : Prop) [Decidable p] : ∃ a, a ≤ 1 ∧ bI p = nI a := by
  by_cases h : p
  · exact ⟨1, Nat.le_refl _, bI_t h⟩
  · exact ⟨0, by decide, bI_f h⟩
theorem fMis_ex (H : Inv q n S r) {i : Nat} (hi : i < S) (x : Int32) : ∃ t, t ≤ 8 ∧ fMis q (nI i) x = nI t := by
  obtain ⟨hl, hz⟩ := H.sl hi
  unfold fMis
  rw [hl, nI_clamp (by omega)]
  obtain ⟨t, ht, e⟩ := zsum_ex (f := fun k => bI (¬ fOf q (nI i) (18 + nI k) < x)) 1 (gz q i) (fun j _ => bI_ex (¬ fOf q (nI i) (18 + nI j) < x))
  exact ⟨t, by omega, e⟩
theorem fAll_ex (H : Inv q n S r) (x : Int32) : ∃ t, t ≤ 64 ∧ fAll q x = nI t := by
  have hS := H.2.2.1
  have hS8 := H.2.2.2.1
  unfold fAll
  rw [hS, nI_clamp (by omega)]
  obtain ⟨t, ht, e⟩ := zsum_ex 8 S (fun j hj => fMis_ex H hj x)
  exact ⟨t, by omega, e⟩
theorem fSum1_ex (H : Inv q n S r) : ∃ t, t ≤ 396 ∧ fSummed q 1 = nI t := by
  have hn := H.1
  have hn4 := H.2.1
  unfold fSummed
  rw [hn, nI_clamp (by omega)]
  obtain ⟨t, ht, e⟩ := zsum_ex (f := fun i => fBy q (nI i) 1) 99 n (fun j hj => by
    obtain ⟨c, a, hc, ha, e1, e2⟩ := H.2.2.2.2.2.2.1 j hj
    exact ⟨a, ha, by rw [fBy_1 _ (by omega)]; exact e2⟩)
  exact ⟨t, by omega, e⟩
def fLet (q : Nat → Int32) (S : Nat) : Int32 := zsum (fun i => nI (gz q i)) S
theorem fLet_ex (H : Inv q n S r) : ∃ t, t ≤ 64 ∧ fLet q S = nI t ∧ (0 < S → 0 < t) := by
  have hS8 := H.2.2.2.1
  unfold fLet
  have : ∀ j, j ≤ S → ∃ t, t ≤ 8 * j ∧ zsum (fun i => nI (gz q i)) j = nI t ∧ (0 < j → 0 < t) := by
    intro j
    induction j with
    | zero => intro _; exact ⟨0, Nat.le_refl _, rfl, fun h => absurd h (by decide)⟩
    | succ j ih =>
      intro hj
      obtain ⟨t, ht, e, -⟩ := ih (by omega)
      have hz := H.gzz (i := j) (by omega)
      exact ⟨t + gz q j, by omega, by show zsum _ j + nI (gz q j) = _; rw [e, nI_add], fun _ => by omega⟩
  obtain ⟨t, ht, e, h0⟩ := this S (Nat.le_refl _)
  exact ⟨t, by omega, e, h0⟩
theorem zqov {o : Nat → Nat → Int32} {R2 : Nat → Nat → Int32} {v v2 : Value} (h : o = R2) (hv : v2 = v) : (zQp (rput g m o M) v2).1 (some v) (rput g m R2 M) := by subst h hv; exact ⟨rfl, rfl⟩
def vMean (q : Nat → Int32) : UInt64 := if q 0 = 0 then FP.dconst0 else FP.ddiv (FP.i2d (fSummed q 1)) (FP.i2d (q 0))
theorem c6_meanShame (hV : zV g) (H : Inv (R 0) n S r) : tX6_meanShame g [.ref m] (rput g m R M) nX6_meanShame 0 0 (zQp (rput g m (rFail R (if R 0 0 = 0 then 1 else 0)) M) (.double (vMean (R 0)))) := by
  refine eX6_meanShame hV ?_
  have hn := H.1
  have hn4 := H.2.1
  refine sX6_meanShame_0 rp_o rfl rp_0 vl0 (fun c => ?_) (fun c => ?_)
  · have c' : ¬ R 0 0 = 0 := c
    refine sX6_meanShame_14 (iX6_meanShame_15 (c6_fails hV) rp_is (zpr ?_))
    refine sX6_meanShame_18 (fun _ => ?_) (fun c => absurd (by decide) c)
    refine sX6_meanShame_25 (iX6_meanShame_27 (c6_summed hV H.ghe ⟨1, by decide, rfl⟩) rp_is (zpr ?_))
    obtain ⟨t, ht, et⟩ := fSum1_ex H
    have hn0 : n ≠ 0 := fun e => c' (by rw [hn, e]; rfl)
    have hfp := fp_d ⟨t, by omega⟩ ⟨n, by omega⟩ hn0
    refine sX6_meanShame_30 rp_o rfl rp_0 vl0 (by rw [rFail_0, et, show R 0 (0 : Int32).toNatClampNeg = nI n from hn]; exact hfp) (sX6_meanShame_39 (zqov (by rw [if_neg c']) ?_))
    unfold vMean
    rw [if_neg c']; rfl
  · have c' : R 0 0 = 0 := c
    refine sX6_meanShame_10 (iX6_meanShame_15 (c6_fails hV) rp_is (zpr ?_))
    refine sX6_meanShame_18 (fun c => absurd c (by decide)) (fun _ => sX6_meanShame_21 (sX6_meanShame_39 (zqov (by rw [if_pos c']) ?_)))
    unfold vMean
    rw [if_pos c']
def vShare (q : Nat → Int32) (S : Nat) : UInt32 := if S = 0 then FP.fconst0 else FP.fdiv (FP.i2f (fAll q 1)) (FP.i2f (fLet q S))
theorem c6_errorShare (hV : zV g) (H : Inv (R 0) n S r) : tX6_errorShare g [.ref m] (rput g m R M) nX6_errorShare 0 0 (zQp (rput g m (rFail R (if S = 0 then 1 else 0)) M) (.float (vShare (R 0) S))) := by
  refine eX6_errorShare hV ?_
  have hS := H.2.2.1
  have hS8 := H.2.2.2.1
  refine sX6_errorShare_0 rp_o rfl rp_0 vl1 (fun c => ?_) (fun c => ?_)
  · have c' : ¬ S = 0 := fun e => c (by rw [show R 0 (1 : Int32).toNatClampNeg = nI S from hS, e]; rfl)
    refine sX6_errorShare_14 (iX6_errorShare_15 (c6_fails hV) rp_is (zpr ?_))
    refine sX6_errorShare_18 (fun _ => ?_) (fun c => absurd (by decide) c)
    refine sX6_errorShare_23 ?_
    have key := zdown (P := fun j => Z g kX6_errorShare (zQp (rput g m (rFail R (if S = 0 then 1 else 0)) M) (.float (vShare (R 0) S))) nX6_errorShare 0 0 (rput g m (rFail R 0) M) 27 [some (.ref m), some (.int (zsum (fun i => nI (gz (R 0) i)) j)), some (.int (nI j))] []) S ?_ (fun j hj ih => ?_) 0 (Nat.zero_le _)
    · exact key
    · refine sX6_errorShare_27 rp_o rfl rp_0 vl1 (fun _ => ?_) (fun c => absurd (le_nI0 hS) c)
      refine sX6_errorShare_52 (iX6_errorShare_54 (c6_all hV H.gse) rp_is (zpr ?_))
      obtain ⟨t, ht, et⟩ := fAll_ex H 1
      obtain ⟨z, hz, ez, hz0⟩ := fLet_ex H
      have hfp := fp_f ⟨t, by omega⟩ ⟨z, by omega⟩ (by have := hz0 (by omega); show z ≠ 0; omega)
      refine sX6_errorShare_57 (by rw [rFail_0, et, show zsum (fun i => nI (gz (R 0) i)) S = nI z from ez]; exact hfp) (zqov (by rw [if_neg c']) ?_)
      unfold vShare
      rw [if_neg c']; rfl
    · have hsO := H.sok hj
      refine sX6_errorShare_27 rp_o rfl rp_0 vl1 (fun c => absurd c (le_nI hS (by omega) hj)) (fun _ => ?_)
      refine sX6_errorShare_37 (iX6_errorShare_41 (c6_of hV hsO.a1) rp_is (zpr (sX6_errorShare_44 ?_)))
      rw [rFail_0, (H.sl hj).1, nI_1]
      exact ih
  · have c' : S = 0 := (nI_eq_lit (by omega) (by decide)).mp (hS.symm.trans c : nI S = nI 0)
    refine sX6_errorShare_10 (iX6_errorShare_15 (c6_fails hV) rp_is (zpr ?_))
    refine sX6_errorShare_18 (fun c => absurd c (by decide)) (fun _ => sX6_errorShare_21 (zqov (by rw [if_pos c']) ?_))
    unfold vShare
    rw [if_pos c']
end SA
