/-! an order, a text; ErrataPressModel: orderHere, isText -/
section SC
variable {g : ZG} {m : Nat} {R K : Nat → Nat → Int32} {M : ZM} {x c : Int32} {n S r L a p k : Nat} {T f : Nat → Int32}
abbrev Ord : Type := Int32 × Int32 × Int32 × Int32
def pOrd (T : Nat → Int32) (L a : Nat) : Nat × Option Ord :=
  if he T L a = 101 ∨ he T L a = 100 then (a + 1, some (he T L a, 0, 0, 0))
  else if he T L a = 104 then (if isD (he T L (a + 1)) then (a + 1 + rnD T L (a + 1) 2, some (he T L a, vlD T L (a + 1) (rnD T L (a + 1) 2), 0, 0)) else (a + 1, none))
  else if he T L a = 115 then (if isD (he T L (a + 1)) then (if he T L (a + 2) = 61 then (a + 3 + rnL T L (a + 3) 8, if 3 ≤ rnL T L (a + 3) 8 then some (he T L a, he T L (a + 1) - 48, vlL T L (a + 3) (rnL T L (a + 3) 8), 0) else none) else (a + 2, none)) else (a + 1, none))
  else if he T L a = 109 then (if isD (he T L (a + 1)) then (if isD (he T L (a + 2)) then (a + 3 + rnL T L (a + 3) 1, if 1 ≤ rnL T L (a + 3) 1 then some (he T L a, he T L (a + 1) - 48, he T L (a + 2) - 48, vlL T L (a + 3) (rnL T L (a + 3) 1)) else none) else (a + 2, none)) else (a + 1, none))
  else if he T L a = 108 ∨ he T L a = 99 ∨ he T L a = 114 then (if isD (he T L (a + 1)) then (if isD (he T L (a + 2)) then (a + 3, some (he T L a, he T L (a + 1) - 48, he T L (a + 2) - 48, 0)) else (a + 2, none)) else (a + 1, none))
  else if he T L a = 120 then (if isD (he T L (a + 1)) then (a + 2, some (he T L a, he T L (a + 1) - 48, 0, 0)) else (a + 1, none))
  else (a, none)
/-- how many numbers an order needs -/
def needs (c : Int32) : Nat := if c = 104 ∨ c = 120 then 1 else if c = 109 then 3 else if c = 101 ∨ c = 100 then 0 else 2
/-- from p on the row f tells the order o -/
def oAt (f : Nat → Int32) (p : Nat) (o : Ord) : Prop := f p = o.1 ∧ (1 ≤ needs o.1 → f (p + 1) = o.2.1) ∧ (2 ≤ needs o.1 → f (p + 2) = o.2.2.1) ∧ (3 ≤ needs o.1 → f (p + 3) = o.2.2.2)
def zQo1 (g : ZG) (m : Nat) (R : Nat → Nat → Int32) (M : ZM) (f : Nat → Int32) (p : Nat) (res : Nat × Option Ord) : ZQ :=
  zQr (fun w M2 => ∃ f2, w = some (.int (match res.2 with | some _ => 1 | none => 0)) ∧ M2 = rput g m (rT R f2 res.1) M ∧ (∀ i, i < p → f2 i = f i) ∧ (∀ o, res.2 = some o → oAt f2 p o))
theorem zqo1 {res : Nat × Option Ord} {f2 : Nat → Int32} {v : Int32} {b : Nat} (h : res = (b, none)) (hv : v = 0) (hf : ∀ i, i < p → f2 i = f i) : (zQo1 g m R M f p res).1 (some (.int v)) (rput g m (rT R f2 b) M) := by
  subst h hv
  exact ⟨f2, rfl, rfl, hf, fun o ho => by cases ho⟩
theorem zqo2 {res : Nat × Option Ord} {f2 : Nat → Int32} {o : Ord} {v : Int32} {b : Nat} (h : res = (b, some o)) (hv : v = 1) (hf : ∀ i, i < p → f2 i = f i) (ho : oAt f2 p o) : (zQo1 g m R M f p res).1 (some (.int v)) (rput g m (rT R f2 b) M) := by
  subst h hv
  exact ⟨f2, rfl, rfl, hf, fun o2 h2 => by cases h2; exact ho⟩
theorem c6_orderHere (hV : zV g) (hL : TL R L) (ha : a ≤ L) (hn : R 7 20 = nI n) (hn30 : n ≤ 30) : tX6_orderHere g [.ref m] (rput g m (rT R f a) M) nX6_orderHere 0 0 (zQo1 g m R M f (4 * n) (pOrd (R 4) L a)) := by
  refine eX6_orderHere hV ?_
  have h60 := hL.2
  have ep : (4 * nI n : Int32) = nI (4 * n) := by rw [show (4 : Int32) = nI 4 from rfl, pk_mul]
  refine sX6_orderHere_0 rp_o rfl rfl (iX6_orderHere_13 (c6_here hV hL ha) rp_is (zpr ?_))
  rw [show (rT R f a) 7 20 = nI n from hn, ep]
  have hv0 : vp_in (nI (4 * n)) 124 := vp_in_nI (by omega) (by decide)
  refine sX6_orderHere_16 rT_p6 hv0 ?_
  rw [rT_c6, nI_clamp (by omega)]
  have q1 : (nI (4 * n) + 1 : Int32) = nI (4 * n + 1) := nI_add _ 1
  have q2 : (nI (4 * n) + 2 : Int32) = nI (4 * n + 2) := nI_add _ 2
  have q3 : (nI (4 * n) + 3 : Int32) = nI (4 * n + 3) := nI_add _ 3
  generalize hc : he (R 4) L a = c at *
  have hf0 : ∀ i, i < 4 * n → (upd f (4 * n) c) i = f i := fun i hi => upd_n (by omega)
  have hf1 : ∀ x i, i < 4 * n → (upd (upd f (4 * n) c) (4 * n + 1) x) i = f i := fun x i hi => by rw [upd_n (by omega), upd_n (by omega)]
  have hf2 : ∀ x y i, i < 4 * n → (upd (upd (upd f (4 * n) c) (4 * n + 1) x) (4 * n + 2) y) i = f i := fun x y i hi => by rw [upd_n (by omega), upd_n (by omega), upd_n (by omega)]
  have hf3 : ∀ x y z i, i < 4 * n → (upd (upd (upd (upd f (4 * n) c) (4 * n + 1) x) (4 * n + 2) y) (4 * n + 3) z) i = f i := fun x y z i hi => by rw [upd_n (by omega), upd_n (by omega), upd_n (by omega), upd_n (by omega)]
  have hn1 : ∀ k : Int32, c = k → k ≠ -1 → a + 1 ≤ L := fun k h hk => by
    have : he (R 4) L a ≠ -1 := by rw [hc, h]; exact hk
    exact he_lt (P := fun x => x ≠ -1) this (fun h => h rfl)
  have dlt : ∀ {b : Nat}, isD (he (R 4) L b) → b + 1 ≤ L := fun h => he_lt (P := isD) h isD_n1
  have yes : c = 101 ∨ c = 100 → Z g kX6_orderHere (zQo1 g m R M f (4 * n) (pOrd (R 4) L a)) nX6_orderHere 0 0 (rput g m (rT R (upd f (4 * n) c) (a + 1)) M) 35 [some (.ref m), some (.int (nI (4 * n)))] [] := by
    intro h
    refine sX6_orderHere_35 (zqo2 (o := (c, 0, 0, 0)) (by unfold pOrd; rw [hc, if_pos h]) rfl hf0 ⟨upd_s, ?_, ?_, ?_⟩)
    all_goals (intro h2; exfalso; change _ ≤ needs c at h2; rcases h with h | h <;> (rw [h] at h2; revert h2; decide))
  by_cases h1 : c = 101
  · refine iX6_orderHere_20 (c6_skY hV hL ha (hc.trans h1)) rp_is (zpr ?_)
    exact sX6_orderHere_23 (fun _ => yes (Or.inl h1)) (fun c => absurd c (by decide))
  refine iX6_orderHere_20 (c6_skN hV hL ha (fun h => h1 (hc.symm.trans h))) rp_is (zpr ?_)
  refine sX6_orderHere_23 (fun c => absurd rfl c) (fun _ => sX6_orderHere_26 ?_)
  by_cases h2 : c = 100
  · refine iX6_orderHere_29 (c6_skY hV hL ha (hc.trans h2)) rp_is (zpr ?_)
    exact sX6_orderHere_32 (fun c => absurd c (by decide)) (fun _ => yes (Or.inr h2))
  have p0 : ¬ (c = 101 ∨ c = 100) := fun h => h.elim h1 h2
  refine iX6_orderHere_29 (c6_skN hV hL ha (fun h => h2 (hc.symm.trans h))) rp_is (zpr ?_)
  refine sX6_orderHere_32 (fun _ => sX6_orderHere_37 ?_) (fun c => absurd rfl c)
  by_cases h3 : c = 104
  · have a1 := hn1 _ h3 (by decide)
    refine iX6_orderHere_40 (c6_skY hV hL ha (hc.trans h3)) rp_is (zpr ?_)
    refine sX6_orderHere_43 (fun c => absurd c (by decide)) (fun _ => sX6_orderHere_46 ?_)
    by_cases d1 : isD (he (R 4) L (a + 1))
    · refine iX6_orderHere_51 (c6_figY (k := 2) hV hL a1 (by omega) q1 rfl (by decide) d1) rp_is (zpr ?_)
      refine sX6_orderHere_54 (Or.inr rfl) (zqo2 (o := (c, _, 0, 0)) (by unfold pOrd; rw [hc, if_neg p0, if_pos h3, if_pos d1]) rfl (hf1 _) ⟨by rw [upd_n (by omega), upd_s], fun _ => upd_s, ?_, ?_⟩)
      all_goals (intro h2; exfalso; change _ ≤ needs c at h2; rw [h3] at h2; revert h2; decide)
    · refine iX6_orderHere_51 (c6_figN hV hL a1 d1) rp_is (zpr ?_)
      exact sX6_orderHere_54 (Or.inl rfl) (zqo1 (by unfold pOrd; rw [hc, if_neg p0, if_pos h3, if_neg d1]) rfl hf0)
  refine iX6_orderHere_40 (c6_skN hV hL ha (fun h => h3 (hc.symm.trans h))) rp_is (zpr ?_)
  refine sX6_orderHere_43 (fun _ => sX6_orderHere_55 ?_) (fun c => absurd rfl c)
  by_cases h4 : c = 115
  · have a1 := hn1 _ h4 (by decide)
    refine iX6_orderHere_58 (c6_skY hV hL ha (hc.trans h4)) rp_is (zpr ?_)
    refine sX6_orderHere_61 (fun c => absurd c (by decide)) (fun _ => sX6_orderHere_64 ?_)
    by_cases d1 : isD (he (R 4) L (a + 1))
    · have a2 := dlt d1
      refine iX6_orderHere_69 (c6_fig1 hV hL a1 (by omega) q1 d1) rp_is (zpr ?_)
      refine sX6_orderHere_72 (fun c => absurd c (by decide)) (fun _ => sX6_orderHere_75 ?_)
      by_cases d2 : he (R 4) L (a + 2) = 61
      · have a3 : a + 3 ≤ L := he_lt (P := fun x => x = 61) d2 (by decide)
        refine iX6_orderHere_78 (c6_skY hV hL a2 d2) rp_is (zpr ?_)
        refine sX6_orderHere_81 (fun c => absurd c (by decide)) (fun _ => sX6_orderHere_84 ?_)
        refine iX6_orderHere_91 (c6_word (lo := 3) (k := 8) (z := 0) hV hL a3 (by omega) q2 rfl rfl (by decide) (by decide)) rp_is (zpr ?_)
        by_cases w3 : 3 ≤ rnL (R 4) L (a + 3) 8
        · refine sX6_orderHere_94 (fun c => absurd w3 (bI_no c)) (fun _ => sX6_orderHere_97 (sX6_orderHere_102 (Or.inr rfl) ?_))
          refine zqo2 (o := (c, _, _, 0)) (by unfold pOrd; rw [hc, if_neg p0, if_neg h3, if_pos h4, if_pos d1, if_pos d2, if_pos w3]) rfl (hf2 _ _) ⟨by rw [upd_n (by omega), upd_n (by omega), upd_s], fun _ => by rw [upd_n (by omega), upd_s], fun _ => upd_s, ?_⟩
          all_goals (intro h2; exfalso; change _ ≤ needs c at h2; rw [h4] at h2; revert h2; decide)
        · refine sX6_orderHere_94 (fun _ => sX6_orderHere_101 (sX6_orderHere_102 (Or.inl rfl) ?_)) (fun c => absurd (bI_yes c) w3)
          exact zqo1 (by unfold pOrd; rw [hc, if_neg p0, if_neg h3, if_pos h4, if_pos d1, if_pos d2, if_neg w3]) rfl (hf2 _ _)
      · refine iX6_orderHere_78 (c6_skN hV hL a2 d2) rp_is (zpr ?_)
        refine sX6_orderHere_81 (fun _ => sX6_orderHere_101 (sX6_orderHere_102 (Or.inl rfl) ?_)) (fun c => absurd rfl c)
        exact zqo1 (by unfold pOrd; rw [hc, if_neg p0, if_neg h3, if_pos h4, if_pos d1, if_neg d2]) rfl (hf1 _)
    · refine iX6_orderHere_69 (c6_figN hV hL a1 d1) rp_is (zpr ?_)
      refine sX6_orderHere_72 (fun _ => sX6_orderHere_101 (sX6_orderHere_102 (Or.inl rfl) ?_)) (fun c => absurd rfl c)
      exact zqo1 (by unfold pOrd; rw [hc, if_neg p0, if_neg h3, if_pos h4, if_neg d1]) rfl hf0
  refine iX6_orderHere_58 (c6_skN hV hL ha (fun h => h4 (hc.symm.trans h))) rp_is (zpr ?_)
  refine sX6_orderHere_61 (fun _ => sX6_orderHere_103 ?_) (fun c => absurd rfl c)
  by_cases h5 : c = 109
  · have a1 := hn1 _ h5 (by decide)
    refine iX6_orderHere_106 (c6_skY hV hL ha (hc.trans h5)) rp_is (zpr ?_)
    refine sX6_orderHere_109 (fun c => absurd c (by decide)) (fun _ => sX6_orderHere_112 ?_)
    by_cases d1 : isD (he (R 4) L (a + 1))
    · have a2 := dlt d1
      refine iX6_orderHere_117 (c6_fig1 hV hL a1 (by omega) q1 d1) rp_is (zpr ?_)
      refine sX6_orderHere_120 (fun c => absurd c (by decide)) (fun _ => sX6_orderHere_123 ?_)
      by_cases d2 : isD (he (R 4) L (a + 2))
      · have a3 := dlt d2
        refine iX6_orderHere_128 (c6_fig1 hV hL a2 (by omega) q2 d2) rp_is (zpr ?_)
        refine sX6_orderHere_131 (fun c => absurd c (by decide)) (fun _ => sX6_orderHere_134 ?_)
        refine iX6_orderHere_140 (c6_word (lo := 1) (k := 1) (z := 0) hV hL a3 (by omega) q3 rfl rfl (by decide) (by decide)) rp_is (zpr ?_)
        by_cases w3 : 1 ≤ rnL (R 4) L (a + 3) 1
        · refine sX6_orderHere_143 (fun c => absurd w3 (bI_no c)) (fun _ => sX6_orderHere_146 (sX6_orderHere_151 (Or.inr rfl) ?_))
          exact zqo2 (o := (c, _, _, _)) (by unfold pOrd; rw [hc, if_neg p0, if_neg h3, if_neg h4, if_pos h5, if_pos d1, if_pos d2, if_pos w3]) rfl (hf3 _ _ _) ⟨by rw [upd_n (by omega), upd_n (by omega), upd_n (by omega), upd_s], fun _ => by rw [upd_n (by omega), upd_n (by omega), upd_s], fun _ => by rw [upd_n (by omega), upd_s], fun _ => upd_s⟩
        · refine sX6_orderHere_143 (fun _ => sX6_orderHere_150 (sX6_orderHere_151 (Or.inl rfl) ?_)) (fun c => absurd (bI_yes c) w3)
          exact zqo1 (by unfold pOrd; rw [hc, if_neg p0, if_neg h3, if_neg h4, if_pos h5, if_pos d1, if_pos d2, if_neg w3]) rfl (hf3 _ _ _)
      · refine iX6_orderHere_128 (c6_figN hV hL a2 d2) rp_is (zpr ?_)
        refine sX6_orderHere_131 (fun _ => sX6_orderHere_150 (sX6_orderHere_151 (Or.inl rfl) ?_)) (fun c => absurd rfl c)
        exact zqo1 (by unfold pOrd; rw [hc, if_neg p0, if_neg h3, if_neg h4, if_pos h5, if_pos d1, if_neg d2]) rfl (hf1 _)
    · refine iX6_orderHere_117 (c6_figN hV hL a1 d1) rp_is (zpr ?_)
      refine sX6_orderHere_120 (fun _ => sX6_orderHere_150 (sX6_orderHere_151 (Or.inl rfl) ?_)) (fun c => absurd rfl c)
      exact zqo1 (by unfold pOrd; rw [hc, if_neg p0, if_neg h3, if_neg h4, if_pos h5, if_neg d1]) rfl hf0
  refine iX6_orderHere_106 (c6_skN hV hL ha (fun h => h5 (hc.symm.trans h))) rp_is (zpr ?_)
  refine sX6_orderHere_109 (fun _ => sX6_orderHere_152 ?_) (fun c => absurd rfl c)
  have two : c = 108 ∨ c = 99 ∨ c = 114 → Z g kX6_orderHere (zQo1 g m R M f (4 * n) (pOrd (R 4) L a)) nX6_orderHere 0 0 (rput g m (rT R (upd f (4 * n) c) (a + 1)) M) 179 [some (.ref m), some (.int (nI (4 * n)))] [] := by
    intro h6
    have a1 : a + 1 ≤ L := by rcases h6 with h | h | h <;> exact hn1 _ h (by decide)
    refine sX6_orderHere_179 ?_
    by_cases d1 : isD (he (R 4) L (a + 1))
    · have a2 := dlt d1
      refine iX6_orderHere_184 (c6_fig1 hV hL a1 (by omega) q1 d1) rp_is (zpr ?_)
      refine sX6_orderHere_187 (fun c => absurd c (by decide)) (fun _ => sX6_orderHere_190 ?_)
      by_cases d2 : isD (he (R 4) L (a + 2))
      · refine iX6_orderHere_195 (c6_fig1 hV hL a2 (by omega) q2 d2) rp_is (zpr ?_)
        refine sX6_orderHere_198 (fun c => absurd c (by decide)) (fun _ => sX6_orderHere_201 (sX6_orderHere_206 (Or.inr rfl) ?_))
        refine zqo2 (o := (c, _, _, 0)) (by unfold pOrd; rw [hc, if_neg p0, if_neg h3, if_neg h4, if_neg h5, if_pos h6, if_pos d1, if_pos d2]) rfl (hf2 _ _) ⟨by rw [upd_n (by omega), upd_n (by omega), upd_s], fun _ => by rw [upd_n (by omega), upd_s], fun _ => upd_s, ?_⟩
        all_goals (intro h2; exfalso; change _ ≤ needs c at h2; rcases h6 with h6 | h6 | h6 <;> (rw [h6] at h2; revert h2; decide))
      · refine iX6_orderHere_195 (c6_figN hV hL a2 d2) rp_is (zpr ?_)
        refine sX6_orderHere_198 (fun _ => sX6_orderHere_205 (sX6_orderHere_206 (Or.inl rfl) ?_)) (fun c => absurd rfl c)
        exact zqo1 (by unfold pOrd; rw [hc, if_neg p0, if_neg h3, if_neg h4, if_neg h5, if_pos h6, if_pos d1, if_neg d2]) rfl (hf1 _)
    · refine iX6_orderHere_184 (c6_figN hV hL a1 d1) rp_is (zpr ?_)
      refine sX6_orderHere_187 (fun _ => sX6_orderHere_205 (sX6_orderHere_206 (Or.inl rfl) ?_)) (fun c => absurd rfl c)
      exact zqo1 (by unfold pOrd; rw [hc, if_neg p0, if_neg h3, if_neg h4, if_neg h5, if_pos h6, if_neg d1]) rfl hf0
  by_cases h6 : c = 108
  · refine iX6_orderHere_155 (c6_skY hV hL ha (hc.trans h6)) rp_is (zpr ?_)
    exact sX6_orderHere_158 (fun _ => two (Or.inl h6)) (fun c => absurd c (by decide))
  refine iX6_orderHere_155 (c6_skN hV hL ha (fun h => h6 (hc.symm.trans h))) rp_is (zpr ?_)
  refine sX6_orderHere_158 (fun c => absurd rfl c) (fun _ => sX6_orderHere_161 ?_)
  by_cases h7 : c = 99
  · refine iX6_orderHere_164 (c6_skY hV hL ha (hc.trans h7)) rp_is (zpr ?_)
    exact sX6_orderHere_167 (fun _ => two (Or.inr (Or.inl h7))) (fun c => absurd c (by decide))
  refine iX6_orderHere_164 (c6_skN hV hL ha (fun h => h7 (hc.symm.trans h))) rp_is (zpr ?_)
  refine sX6_orderHere_167 (fun c => absurd rfl c) (fun _ => sX6_orderHere_170 ?_)
  by_cases h8 : c = 114
  · refine iX6_orderHere_173 (c6_skY hV hL ha (hc.trans h8)) rp_is (zpr ?_)
    exact sX6_orderHere_176 (fun c => absurd c (by decide)) (fun _ => two (Or.inr (Or.inr h8)))
  have p6 : ¬ (c = 108 ∨ c = 99 ∨ c = 114) := fun h => h.elim h6 (fun h => h.elim h7 h8)
  refine iX6_orderHere_173 (c6_skN hV hL ha (fun h => h8 (hc.symm.trans h))) rp_is (zpr ?_)
  refine sX6_orderHere_176 (fun _ => sX6_orderHere_207 ?_) (fun c => absurd rfl c)
  by_cases h9 : c = 120
  · have a1 := hn1 _ h9 (by decide)
    refine iX6_orderHere_210 (c6_skY hV hL ha (hc.trans h9)) rp_is (zpr ?_)
    refine sX6_orderHere_213 (fun c => absurd c (by decide)) (fun _ => sX6_orderHere_216 ?_)
    by_cases d1 : isD (he (R 4) L (a + 1))
    · refine iX6_orderHere_221 (c6_fig1 hV hL a1 (by omega) q1 d1) rp_is (zpr ?_)
      refine sX6_orderHere_224 (fun c => absurd c (by decide)) (fun _ => sX6_orderHere_227 (sX6_orderHere_232 (Or.inr rfl) ?_))
      refine zqo2 (o := (c, _, 0, 0)) (by unfold pOrd; rw [hc, if_neg p0, if_neg h3, if_neg h4, if_neg h5, if_neg p6, if_pos h9, if_pos d1]) rfl (hf1 _) ⟨by rw [upd_n (by omega), upd_s], fun _ => upd_s, ?_, ?_⟩
      all_goals (intro h2; exfalso; change _ ≤ needs c at h2; rw [h9] at h2; revert h2; decide)
    · refine iX6_orderHere_221 (c6_figN hV hL a1 d1) rp_is (zpr ?_)
      refine sX6_orderHere_224 (fun _ => sX6_orderHere_231 (sX6_orderHere_232 (Or.inl rfl) ?_)) (fun c => absurd rfl c)
      exact zqo1 (by unfold pOrd; rw [hc, if_neg p0, if_neg h3, if_neg h4, if_neg h5, if_neg p6, if_pos h9, if_neg d1]) rfl hf0
  refine iX6_orderHere_210 (c6_skN hV hL ha (fun h => h9 (hc.symm.trans h))) rp_is (zpr ?_)
  refine sX6_orderHere_213 (fun _ => sX6_orderHere_231 (sX6_orderHere_232 (Or.inl rfl) ?_)) (fun c => absurd rfl c)
  exact zqo1 (by unfold pOrd; rw [hc, if_neg p0, if_neg h3, if_neg h4, if_neg h5, if_neg p6, if_neg h9]) rfl hf0
end SC
