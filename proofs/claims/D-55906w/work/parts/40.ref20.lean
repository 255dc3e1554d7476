/-! what a text tells (no program in sight), and ErrataPressModel: here, skips, figures, wordHere -/
section SB
variable {g : ZG} {m : Nat} {R K : Nat → Nat → Int32} {M : ZM} {x c : Int32} {n S r L a p k : Nat} {T f : Nat → Int32}
def he (T : Nat → Int32) (L a : Nat) : Int32 := if a < L then T a else -1
abbrev isD (x : Int32) : Prop := 48 ≤ x ∧ x ≤ 57
abbrev isL (x : Int32) : Prop := 97 ≤ x ∧ x ≤ 102
theorem isD_n1 : ¬ isD (-1) := by decide
theorem isL_n1 : ¬ isL (-1) := by decide
theorem he_lt {P : Int32 → Prop} (h : P (he T L a)) (hn : ¬ P (-1)) : a < L := by
  unfold he at h
  split at h
  · assumption
  · exact absurd h hn
/-- how many figures (letters) follow, so many at most -/
def rnD (T : Nat → Int32) (L : Nat) : Nat → Nat → Nat
  | _, 0 => 0
  | a, k + 1 => if isD (he T L a) then 1 + rnD T L (a + 1) k else 0
def rnL (T : Nat → Int32) (L : Nat) : Nat → Nat → Nat
  | _, 0 => 0
  | a, k + 1 => if isL (he T L a) then 1 + rnL T L (a + 1) k else 0
def vlD (T : Nat → Int32) (L a : Nat) : Nat → Int32
  | 0 => 0
  | k + 1 => 10 * vlD T L a k + he T L (a + k) - 48
def vlL (T : Nat → Int32) (L a : Nat) : Nat → Int32
  | 0 => 0
  | k + 1 => 10 * vlL T L a k + he T L (a + k) - 97 + 1
theorem rnD_le : ∀ k a, rnD T L a k ≤ k := by
  intro k
  induction k with
  | zero => intro a; exact Nat.le_refl _
  | succ k ih => intro a; unfold rnD; split; have := ih (a + 1); omega; omega
theorem rnL_le : ∀ k a, rnL T L a k ≤ k := by
  intro k
  induction k with
  | zero => intro a; exact Nat.le_refl _
  | succ k ih => intro a; unfold rnL; split; have := ih (a + 1); omega; omega
theorem rnD_in : ∀ k a, a ≤ L → a + rnD T L a k ≤ L := by
  intro k
  induction k with
  | zero => intro a h; exact h
  | succ k ih =>
    intro a h
    unfold rnD
    split
    · next hd =>
      have := ih (a + 1) (he_lt (P := isD) hd isD_n1)
      omega
    · exact h
theorem rnL_in : ∀ k a, a ≤ L → a + rnL T L a k ≤ L := by
  intro k
  induction k with
  | zero => intro a h; exact h
  | succ k ih =>
    intro a h
    unfold rnL
    split
    · next hd =>
      have := ih (a + 1) (he_lt (P := isL) hd isL_n1)
      omega
    · exact h
/-- the reference while it reads: told is f, at is a -/
def rT (R : Nat → Nat → Int32) (f : Nat → Int32) (a : Nat) : Nat → Nat → Int32 := ru (rrow R 6 f) 7 18 (nI a)
theorem rT_18 : ru (rT R f a) 7 18 (nI k) = rT R f k := by
  funext i j; unfold rT ru; by_cases h : i = 7 ∧ j = 18 <;> simp [h]
theorem rT_6 {i : Nat} : ru (rT R f a) 6 i x = rT R (upd f i x) a := by
  funext u v; unfold rT ru rrow upd
  by_cases h : u = 6
  · subst h; simp
  · by_cases h2 : u = 7 ∧ v = 18 <;> simp [h, h2]
theorem rT_f : (rT R f a) 6 = f := rfl
theorem rT_a : (rT R f a) 7 18 = nI a := rfl
theorem rT_p6 : (rput g m (rT R f a) M).1 (m + 7) = some (.inl (zA g 0, 124, .inl f)) := rp_6
theorem rT_c6 {i : Nat} : zup (rput g m (rT R f a) M) (m + 7) (.inl (zA g 0, 124, .inl (upd f i x))) = rput g m (rT R (upd f i x) a) M := by
  rw [← rT_6]; exact ra_6
/-- what a text holds: its length -/
def TL (R : Nat → Nat → Int32) (L : Nat) : Prop := R 7 14 = nI L ∧ L ≤ 60
theorem c6_here (hV : zV g) (hL : TL R L) (ha : a ≤ L) : tX6_here g [.ref m] (rput g m (rT R f a) M) nX6_here 0 0 (zQp (rput g m (rT R f a) M) (.int (he (R 4) L a))) := by
  obtain ⟨hL, h60⟩ := hL
  refine eX6_here hV ?_
  refine sX6_here_0 rp_o rfl rfl (fun c => ?_) (fun c => ?_)
  · have c' : nI L ≤ nI a := by rw [← hL]; exact c
    rw [le_iff (by omega) (by omega)] at c'
    refine sX6_here_23 (sX6_here_24 (zqi ?_))
    unfold he; rw [if_neg (by omega)]
  · have c' : ¬ nI L ≤ nI a := by rw [← hL]; exact c
    rw [le_iff (by omega) (by omega)] at c'
    refine sX6_here_11 rp_o rfl rfl rp_4 (by show vp_in (nI a) 60; exact vp_in_nI (by omega) (by decide)) (sX6_here_24 (zqi ?_))
    unfold he; rw [if_pos (by omega)]
    show R 4 (nI a).toNatClampNeg = _
    rw [nI_clamp (by omega)]
theorem c6_skN (hV : zV g) (hL : TL R L) (ha : a ≤ L) (h : ¬ he (R 4) L a = c) : tX6_skips g [.ref m, .int c] (rput g m (rT R f a) M) nX6_skips 0 0 (zQp (rput g m (rT R f a) M) (.int 0)) := by
  refine eX6_skips hV ?_
  refine sX6_skips_0 (iX6_skips_1 (c6_here hV hL ha) rp_is (zpr ?_))
  exact sX6_skips_4 (fun c => absurd c h) (fun _ => sX6_skips_8 (zqi rfl))
theorem c6_skY (hV : zV g) (hL : TL R L) (ha : a ≤ L) (h : he (R 4) L a = c) : tX6_skips g [.ref m, .int c] (rput g m (rT R f a) M) nX6_skips 0 0 (zQp (rput g m (rT R f (a + 1)) M) (.int 1)) := by
  refine eX6_skips hV ?_
  refine sX6_skips_0 (iX6_skips_1 (c6_here hV hL ha) rp_is (zpr ?_))
  refine sX6_skips_4 (fun _ => sX6_skips_10 rp_o rfl (Nat.le_of_ble_eq_true rfl) ?_) (fun c => absurd h c)
  rw [rs_18, rf_r]
  show (zQp _ _).1 _ (rput g m (ru (rT R f a) 7 18 (nI a + 1)) M)
  rw [nI_1, rT_18]
  exact zqi rfl
theorem c6_figN (hV : zV g) (hL : TL R L) (ha : a ≤ L) (h : ¬ isD (he (R 4) L a)) : tX6_figures g [.ref m, .int c, .int x] (rput g m (rT R f a) M) nX6_figures 0 0 (zQp (rput g m (rT R f a) M) (.int 0)) := by
  refine eX6_figures hV ?_
  refine sX6_figures_0 (iX6_figures_1 (c6_here hV hL ha) rp_is (zpr ?_))
  refine sX6_figures_4 (iX6_figures_8 (c6_in hV) (zpr ?_))
  exact sX6_figures_11 (fun c => absurd (bI_yes c) h) (fun _ => sX6_figures_14 (zqi rfl))
theorem c6_figY (hV : zV g) (hL : TL R L) (ha : a ≤ L) (hp : p < 124) (hc : c = nI p) (hx : x = nI k) (hk : k ≤ 8) (h : isD (he (R 4) L a)) : tX6_figures g [.ref m, .int c, .int x] (rput g m (rT R f a) M) nX6_figures 0 0 (zQp (rput g m (rT R (upd f p (vlD (R 4) L a (rnD (R 4) L a k))) (a + rnD (R 4) L a k)) M) (.int 1)) := by
  subst hc hx
  have hvp : vp_in (nI p) 124 := vp_in_nI hp (by decide)
  have hcp : (nI p).toNatClampNeg = p := nI_clamp (by omega)
  have h60 := hL.2
  refine eX6_figures hV ?_
  refine sX6_figures_0 (iX6_figures_1 (c6_here hV hL ha) rp_is (zpr ?_))
  refine sX6_figures_4 (iX6_figures_8 (c6_in hV) (zpr ?_))
  refine sX6_figures_11 (fun _ => ?_) (fun c => absurd h (bI_no c))
  refine sX6_figures_16 rp_o rfl rT_p6 hvp ?_
  rw [hcp, rT_c6]
  have loop : ∀ t j, j + t = k → a + j ≤ L → Z g kX6_figures (zQp (rput g m (rT R (upd f p (vlD (R 4) L a (j + rnD (R 4) L (a + j) t))) (a + (j + rnD (R 4) L (a + j) t))) M) (.int 1)) nX6_figures 0 0 (rput g m (rT R (upd f p (vlD (R 4) L a j)) (a + j)) M) 25 [some (.ref m), some (.int (nI p)), some (.int (nI k)), some (.int (nI j))] [] := by
    intro t
    induction t with
    | zero =>
      intro j hj _
      have : j = k := by omega
      subst this
      exact sX6_figures_25 (fun _ => sX6_figures_83 (zqi rfl)) (fun c => absurd (Int32.le_refl _) c)
    | succ t ih =>
      intro j hj haj
      refine sX6_figures_25 (fun c => absurd c (nI_ge (by omega) (by omega))) (fun _ => ?_)
      refine sX6_figures_30 (iX6_figures_31 (c6_here hV hL haj) rp_is (zpr ?_))
      refine sX6_figures_34 (iX6_figures_38 (c6_in hV) (zpr ?_))
      refine sX6_figures_41 (fun c => sX6_figures_83 ?_) (fun c => ?_)
      · have : rnD (R 4) L (a + j) (t + 1) = 0 := by unfold rnD; rw [if_neg (bI_no c)]
        rw [this]
        exact zqi rfl
      · have hd : isD (he (R 4) L (a + j)) := bI_yes c
        have hlt := he_lt (P := isD) hd isD_n1
        have e : rnD (R 4) L (a + j) (t + 1) = 1 + rnD (R 4) L (a + (j + 1)) t := by
          show (if isD (he (R 4) L (a + j)) then 1 + rnD (R 4) L (a + j + 1) t else 0) = _
          rw [if_pos hd]; rfl
        refine sX6_figures_44 rp_o rfl rT_p6 hvp ?_
        refine iX6_figures_59 (c6_here hV hL haj) rp_is (zpr ?_)
        refine sX6_figures_62 rT_p6 hvp (by rw [rT_c6]; exact rp_o) rfl (Nat.le_of_ble_eq_true rfl) ?_
        rw [rT_c6, rs_18, rf_r, hcp, upd_upd, upd_s]
        have := ih (j + 1) (by omega) (by omega)
        rw [show j + 1 + rnD (R 4) L (a + (j + 1)) t = j + rnD (R 4) L (a + j) (t + 1) by rw [e]; omega] at this
        show Z g kX6_figures _ nX6_figures 0 0 (rput g m (ru (rT R _ (a + j)) 7 18 (nI (a + j) + 1)) M) 25 _ _
        rw [nI_1, nI_1, rT_18]
        exact this
  have := loop k 0 (by omega) ha
  rw [Nat.zero_add] at this
  exact this
theorem c6_word {lo : Nat} {y z : Int32} (hV : zV g) (hL : TL R L) (ha : a ≤ L) (hp : p < 124) (hc : c = nI p) (hy : y = nI lo) (hx : x = nI k) (hk : k ≤ 8) (hlo : lo ≤ 8) : tX6_wordHere g [.ref m, .int c, .int y, .int x] (rput g m (rT R f a) M) nX6_wordHere 0 0 (zQp (rput g m (rT R (upd f p (vlL (R 4) L a (rnL (R 4) L a k))) (a + rnL (R 4) L a k)) M) (.int (bI (lo ≤ rnL (R 4) L a k)))) := by
  subst hc hx hy
  have hvp : vp_in (nI p) 124 := vp_in_nI hp (by decide)
  have hcp : (nI p).toNatClampNeg = p := nI_clamp (by omega)
  have h60 := hL.2
  refine eX6_wordHere hV ?_
  refine sX6_wordHere_0 rp_o rfl rT_p6 hvp ?_
  rw [hcp, rT_c6]
  have fin : ∀ (f2 : Nat → Int32) (a2 j : Nat) (Q : ZQ), j ≤ 8 → Q.1 (some (.int (bI (lo ≤ j)))) (rput g m (rT R f2 a2) M) → Z g kX6_wordHere Q nX6_wordHere 0 0 (rput g m (rT R f2 a2) M) 71 [some (.ref m), some (.int (nI p)), some (.int (nI lo)), some (.int (nI k)), some (.int (nI j))] [] := by
    intro f2 a2 j Q hj hQ
    refine sX6_wordHere_71 (fun c => ?_) (fun c => ?_)
    · have c' : ¬ lo ≤ j := fun h => Int32.not_le.mpr c ((le_iff (by omega) (by omega)).mpr h)
      rw [bI_f c'] at hQ
      exact sX6_wordHere_81 (sX6_wordHere_82 (Or.inl rfl) hQ)
    · have c' : lo ≤ j := (le_iff (by omega) (by omega)).mp (Int32.not_lt.mp c)
      rw [bI_t c'] at hQ
      exact sX6_wordHere_77 (sX6_wordHere_82 (Or.inr rfl) hQ)
  have loop : ∀ t j, j + t = k → a + j ≤ L → Z g kX6_wordHere (zQp (rput g m (rT R (upd f p (vlL (R 4) L a (j + rnL (R 4) L (a + j) t))) (a + (j + rnL (R 4) L (a + j) t))) M) (.int (bI (lo ≤ j + rnL (R 4) L (a + j) t)))) nX6_wordHere 0 0 (rput g m (rT R (upd f p (vlL (R 4) L a j)) (a + j)) M) 10 [some (.ref m), some (.int (nI p)), some (.int (nI lo)), some (.int (nI k)), some (.int (nI j))] [] := by
    intro t
    induction t with
    | zero =>
      intro j hj _
      have : j = k := by omega
      subst this
      exact sX6_wordHere_10 (fun _ => fin _ _ _ _ (by omega) (zqi rfl)) (fun c => absurd (Int32.le_refl _) c)
    | succ t ih =>
      intro j hj haj
      refine sX6_wordHere_10 (fun c => absurd c (nI_ge (by omega) (by omega))) (fun _ => ?_)
      refine sX6_wordHere_16 (iX6_wordHere_17 (c6_here hV hL haj) rp_is (zpr ?_))
      refine sX6_wordHere_20 (iX6_wordHere_24 (c6_in hV) (zpr ?_))
      refine sX6_wordHere_27 (fun c => ?_) (fun c => ?_)
      · have : rnL (R 4) L (a + j) (t + 1) = 0 := by unfold rnL; rw [if_neg (bI_no c)]
        rw [this]
        exact fin _ _ _ _ (by omega) (zqi rfl)
      · have hd : isL (he (R 4) L (a + j)) := bI_yes c
        have hlt := he_lt (P := isL) hd isL_n1
        have e : rnL (R 4) L (a + j) (t + 1) = 1 + rnL (R 4) L (a + (j + 1)) t := by
          show (if isL (he (R 4) L (a + j)) then 1 + rnL (R 4) L (a + j + 1) t else 0) = _
          rw [if_pos hd]; rfl
        refine sX6_wordHere_30 rp_o rfl rT_p6 hvp ?_
        refine iX6_wordHere_45 (c6_here hV hL haj) rp_is (zpr ?_)
        refine sX6_wordHere_48 rT_p6 hvp (by rw [rT_c6]; exact rp_o) rfl (Nat.le_of_ble_eq_true rfl) ?_
        rw [rT_c6, rs_18, rf_r, hcp, upd_upd, upd_s]
        have := ih (j + 1) (by omega) (by omega)
        rw [show j + 1 + rnL (R 4) L (a + (j + 1)) t = j + rnL (R 4) L (a + j) (t + 1) by rw [e]; omega] at this
        show Z g kX6_wordHere _ nX6_wordHere 0 0 (rput g m (ru (rT R _ (a + j)) 7 18 (nI (a + j) + 1)) M) 10 _ _
        rw [nI_1, nI_1, rT_18]
        exact this
  have := loop k 0 (by omega) ha
  rw [Nat.zero_add] at this
  exact this
theorem rnD_1 (h : isD (he T L a)) : rnD T L a 1 = 1 := by
  show (if isD (he T L a) then 1 + 0 else 0) = 1
  rw [if_pos h]
theorem vlD_1 : vlD T L a 1 = he T L a - 48 := by
  show 10 * 0 + he T L (a + 0) - 48 = _
  rw [Int32.mul_zero, Int32.zero_add]; rfl
theorem c6_fig1 (hV : zV g) (hL : TL R L) (ha : a ≤ L) (hp : p < 124) (hc : c = nI p) (h : isD (he (R 4) L a)) : tX6_figures g [.ref m, .int c, .int 1] (rput g m (rT R f a) M) nX6_figures 0 0 (zQp (rput g m (rT R (upd f p (he (R 4) L a - 48)) (a + 1)) M) (.int 1)) := by
  have := c6_figY (k := 1) (x := 1) (f := f) (m := m) (M := M) hV hL ha hp hc rfl (by decide) h
  rw [rnD_1 h, vlD_1] at this
  exact this
end SB
