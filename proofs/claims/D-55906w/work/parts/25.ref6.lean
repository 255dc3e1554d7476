/-! ErrataPressModel: what writes -/
section RN
variable {g : ZG} {m : Nat} {R : Nat → Nat → Int32} {M : ZM} {s w h k x y : Int32}
theorem zpv {K : ZK} {Q : ZQ} {d cN sN pc : Nat} {ls : List (Option Value)} {rest : List Value} (h : Z g K Q d cN sN M pc ls rest) : ∀ (w : Option Value) (M2 : ZM), (zQv M).1 w M2 → Z g K Q d cN sN M2 pc ls (w.toList ++ rest) := by
  intro w M2 h2
  obtain ⟨rfl, rfl⟩ := h2
  exact h
theorem zqv {M M2 : ZM} (h : M2 = M) : (zQv M).1 none M2 := ⟨rfl, h⟩
theorem zqm {M M2 : ZM} {x y : Int32} (h : y = x) (h2 : M2 = M) : (zQp M (.int x)).1 (some (.int y)) M2 := ⟨by rw [h], h2⟩
theorem rf_r {k : Nat} : zup (rput g m R M) m (.inr (5, rfs m (ru R 7 k x))) = rput g m (ru R 7 k x) M := rf_ok rfl (fun j hj => ru_ne (by omega))
theorem rs_4 : (rfs m R).set 4 (.int x) = rfs m (ru R 7 4 x) := by simp [rfs, ru]
theorem rs_5 : (rfs m R).set 5 (.int x) = rfs m (ru R 7 5 x) := by simp [rfs, ru]
theorem rs_6 : (rfs m R).set 6 (.int x) = rfs m (ru R 7 6 x) := by simp [rfs, ru]
theorem rs_7 : (rfs m R).set 7 (.int x) = rfs m (ru R 7 7 x) := by simp [rfs, ru]
theorem rs_8 : (rfs m R).set 8 (.int x) = rfs m (ru R 7 8 x) := by simp [rfs, ru]
theorem rs_9 : (rfs m R).set 9 (.int x) = rfs m (ru R 7 9 x) := by simp [rfs, ru]
theorem rs_10 : (rfs m R).set 10 (.int x) = rfs m (ru R 7 10 x) := by simp [rfs, ru]
theorem rs_11 : (rfs m R).set 11 (.int x) = rfs m (ru R 7 11 x) := by simp [rfs, ru]
theorem rs_12 : (rfs m R).set 12 (.int x) = rfs m (ru R 7 12 x) := by simp [rfs, ru]
theorem rs_14 : (rfs m R).set 14 (.int x) = rfs m (ru R 7 14 x) := by simp [rfs, ru]
theorem rs_15 : (rfs m R).set 15 (.int x) = rfs m (ru R 7 15 x) := by simp [rfs, ru]
theorem rs_17 : (rfs m R).set 17 (.int x) = rfs m (ru R 7 17 x) := by simp [rfs, ru]
theorem rs_18 : (rfs m R).set 18 (.int x) = rfs m (ru R 7 18 x) := by simp [rfs, ru]
theorem rs_20 : (rfs m R).set 20 (.int x) = rfs m (ru R 7 20 x) := by simp [rfs, ru]
def rFail (R : Nat → Nat → Int32) (p : Int32) : Nat → Nat → Int32 := ru (ru R 7 8 p) 7 7 0
theorem c6_fails (hV : zV g) : tX6_fails g [.ref m, .int x] (rput g m R M) nX6_fails 0 0 (zQp (rput g m (rFail R x) M) (.int (bI (¬ x ≤ 0)))) := by
  refine eX6_fails hV ?_
  repeat' (first
    | refine sX6_fails_0 rp_o (Nat.le_of_ble_eq_true rfl) (Nat.le_of_ble_eq_true rfl) (fun c_0 => ?_) (fun c_0 => ?_)
    | refine sX6_fails_14 ?_
    | refine sX6_fails_18 ?_
    | refine sX6_fails_19 (by first | exact Or.inl rfl | exact Or.inr rfl | exact bI_01 _ | assumption) ?_
    | with_reducible exact zqi rfl
    | simp only [rs_4, rs_5, rs_6, rs_7, rs_8, rs_9, rs_10, rs_11, rs_12, rs_14, rs_15, rs_17, rs_18, rs_20, rf_r, ra_0, ra_1, ra_2, ra_3, ra_4, ra_5, ra_6]
    | fail)
  all_goals exact zqm (by simp [bI, c_0]) rfl
def rRef (R : Nat → Nat → Int32) (p r o : Int32) : Nat → Nat → Int32 := ru (ru (ru (ru (ru (ru R 7 8 p) 7 7 1) 7 9 r) 7 10 o) 7 11 0) 7 12 0
theorem c6_refuses (hV : zV g) : tX6_refuses g [.ref m, .int x, .int y, .int w] (rput g m R M) nX6_refuses 0 0 (zQp (rput g m (rRef R x y w) M) (.int 0)) := by
  refine eX6_refuses hV ?_
  repeat' (first
    | refine sX6_refuses_0 rp_o (Nat.le_of_ble_eq_true rfl) (Nat.le_of_ble_eq_true rfl) (Nat.le_of_ble_eq_true rfl) (Nat.le_of_ble_eq_true rfl) (Nat.le_of_ble_eq_true rfl) (Nat.le_of_ble_eq_true rfl) ?_
    | with_reducible exact zqi rfl
    | simp only [rs_4, rs_5, rs_6, rs_7, rs_8, rs_9, rs_10, rs_11, rs_12, rs_14, rs_15, rs_17, rs_18, rs_20, rf_r, ra_0, ra_1, ra_2, ra_3, ra_4, ra_5, ra_6]
    | fail)
  all_goals exact zqm rfl rfl
def rAdd (R : Nat → Nat → Int32) (h w x : Int32) : Nat → Nat → Int32 := ru R 0 (10 + 3 * h + w : Int32).toNatClampNeg (fBy (R 0) h w + x)
theorem c6_adds (hV : zV g) (hb : vp_in (10 + 3 * h + w) 240) : tX6_adds g [.ref m, .int h, .int w, .int x] (rput g m R M) nX6_adds 0 0 (zQv (rput g m (rAdd R h w x) M)) := by
  refine eX6_adds hV ?_
  repeat' (first
    | with_reducible exact hb
    | refine sX6_adds_0 rp_o rfl rp_0 ?_ ?_
    | with_reducible exact zqi rfl
    | simp only [rs_4, rs_5, rs_6, rs_7, rs_8, rs_9, rs_10, rs_11, rs_12, rs_14, rs_15, rs_17, rs_18, rs_20, rf_r, ra_0, ra_1, ra_2, ra_3, ra_4, ra_5, ra_6]
    | fail)
  all_goals exact zqv rfl
def rGet (R : Nat → Nat → Int32) (h w x : Int32) : Nat → Nat → Int32 := ru R 0 (10 + 3 * h + w : Int32).toNatClampNeg (fAtMost (fBy (R 0) h w + x) 99)
theorem c6_gets (hV : zV g) (hb : vp_in (10 + 3 * h + w) 240) : tX6_gets g [.ref m, .int h, .int w, .int x] (rput g m R M) nX6_gets 0 0 (zQv (rput g m (rGet R h w x) M)) := by
  refine eX6_gets hV ?_
  repeat' (first
    | with_reducible exact hb
    | exact sX6_gets_25 rp_0 hb (by rw [ra_0]; exact zqv rfl)
    | refine sX6_gets_0 rp_o rfl ?_
    | refine sX6_gets_18 ?_
    | refine sX6_gets_25 (by assumption) ?_ ?_
    | refine iX6_gets_15 (c6_by hV ?_) rp_is (zpr ?_)
    | refine iX6_gets_22 (c6_atMost hV) (zpr ?_)
    | with_reducible exact zqi rfl
    | simp only [rs_4, rs_5, rs_6, rs_7, rs_8, rs_9, rs_10, rs_11, rs_12, rs_14, rs_15, rs_17, rs_18, rs_20, rf_r, ra_0, ra_1, ra_2, ra_3, ra_4, ra_5, ra_6]
    | fail)
def rLay (R : Nat → Nat → Int32) (s w x : Int32) : Nat → Nat → Int32 := ru R 0 (22 + 26 * s + w : Int32).toNatClampNeg x
theorem c6_lays (hV : zV g) (hb : vp_in (22 + 26 * s + w) 240) : tX6_lays g [.ref m, .int s, .int w, .int x] (rput g m R M) nX6_lays 0 0 (zQv (rput g m (rLay R s w x) M)) := by
  refine eX6_lays hV ?_
  repeat' (first
    | with_reducible exact hb
    | refine sX6_lays_0 rp_o rfl rp_0 ?_ ?_
    | with_reducible exact zqi rfl
    | simp only [rs_4, rs_5, rs_6, rs_7, rs_8, rs_9, rs_10, rs_11, rs_12, rs_14, rs_15, rs_17, rs_18, rs_20, rf_r, ra_0, ra_1, ra_2, ra_3, ra_4, ra_5, ra_6]
    | fail)
  all_goals exact zqv rfl
/-- 240 ints of f, from a on, into t, from b on -/
def cpy (f : Nat → Int32) (a : Nat) (t : Nat → Int32) (b n : Nat) : Nat → Int32 := fun i => if b ≤ i ∧ i < b + n then f (a + (i - b)) else t i
theorem cpy_s {f t : Nat → Int32} {a b n : Nat} : upd (cpy f a t b n) (b + n) (f (a + n)) = cpy f a t b (n + 1) := by
  funext i
  unfold upd cpy
  by_cases h : i = b + n
  · subst h
    rw [if_pos rfl, if_pos (by omega)]
    congr 1
    omega
  · rw [if_neg h]
    by_cases h2 : b ≤ i ∧ i < b + n
    · rw [if_pos h2, if_pos (by omega)]
    · rw [if_neg h2, if_neg (by omega)]
theorem cpy_0 {f t : Nat → Int32} {a b : Nat} : cpy f a t b 0 = t := by
  funext i
  unfold cpy
  rw [if_neg (by omega)]
theorem zup_id {a : Nat} {e : va_E} (h : M.1 a = some e) : zup M a e = M := by
  refine rz_ext (fun b => ?_) rfl
  by_cases hb : b = a
  · subst hb; rw [zup_self, h]
  · rw [zup_ne _ _ hb]
theorem zup_zup {a : Nat} {e e2 : va_E} : zup (zup M a e) a e2 = zup M a e2 := by
  refine rz_ext (fun b => ?_) rfl
  by_cases hb : b = a
  · subst hb; rw [zup_self, zup_self]
  · rw [zup_ne _ _ hb, zup_ne _ _ hb, zup_ne _ _ hb]
theorem c6_copies (hV : zV g) {a b na nb fa fb : Nat} {f t : Nat → Int32} {xa xb : Int32} (hf : M.1 a = some (.inl (zA g 0, na, .inl f))) (ht : M.1 b = some (.inl (zA g 0, nb, .inl t))) (hab : a ≠ b) (ha : xa = nI fa) (hb : xb = nI fb) (hla : fa + 240 ≤ na) (hlb : fb + 240 ≤ nb) (hna : na < 2 ^ 31) (hnb : nb < 2 ^ 31) : tX6_copies g [.ref a, .int xa, .ref b, .int xb] M nX6_copies 0 0 (zQv (zup M b (.inl (zA g 0, nb, .inl (cpy f fa t fb 240))))) := by
  refine eX6_copies (v1 := .ref a) rfl (v3 := .ref b) rfl hV (sX6_copies_0 ?_)
  have key := zdown (P := fun j => Z g kX6_copies (zQv (zup M b (.inl (zA g 0, nb, .inl (cpy f fa t fb 240))))) nX6_copies 0 0 (zup M b (.inl (zA g 0, nb, .inl (cpy f fa t fb j)))) 3 [some (.ref a), some (.int xa), some (.ref b), some (.int xb), some (.int (nI j))] []) 240 ?_ (fun j hj ih => ?_) 0 (Nat.zero_le _)
  · rw [cpy_0, zup_id ht] at key
    exact key
  · exact sX6_copies_3 (fun _ => sX6_copies_29 (zqv rfl)) (fun c => absurd (Int32.le_refl _) c)
  · refine sX6_copies_3 (fun c => absurd c (nI_ge hj (by decide))) (fun c => ?_)
    have e1 : xa + nI j = nI (fa + j) := by rw [ha, nI_add]
    have e2 : xb + nI j = nI (fb + j) := by rw [hb, nI_add]
    refine sX6_copies_11 ((zup_ne M _ hab).trans hf) (vp_nI e1 (by omega) hna) (zup_self _ _ _) (vp_nI e2 (by omega) hnb) ?_
    rw [cl_nI e1 (by omega), cl_nI e2 (by omega), zup_zup, cpy_s, nI_1]
    exact ih
end RN
