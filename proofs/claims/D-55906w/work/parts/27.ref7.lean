/-! ErrataPressModel: keeps, houses, readers, misprints, licences, fines -/
section RO
variable {g : ZG} {m : Nat} {R : Nat → Nat → Int32} {M : ZM} {s w h k x y c : Int32} {n S r : Nat}
def rrow (R : Nat → Nat → Int32) (j : Nat) (f : Nat → Int32) : Nat → Nat → Int32 := fun a b => if a = j then f b else R a b
theorem rrow_s {j : Nat} {f : Nat → Int32} : rrow R j f j = f := by funext b; simp [rrow]
theorem rrow_n {j i : Nat} {f : Nat → Int32} (h : i ≠ j) : rrow R j f i = R i := by funext b; simp [rrow, h]
theorem rrow_id {j : Nat} : rrow R j (R j) = R := by
  funext a b
  unfold rrow
  by_cases h : a = j
  · rw [if_pos h, h]
  · rw [if_neg h]
theorem rrow_rrow {j : Nat} {f f2 : Nat → Int32} : rrow (rrow R j f) j f2 = rrow R j f2 := by funext a b; unfold rrow; split <;> rfl
theorem ru_rrow {j i : Nat} {f : Nat → Int32} : ru (rrow R j f) j i x = rrow R j (upd f i x) := by
  funext a b; unfold ru rrow upd
  by_cases h : a = j <;> simp [h]
theorem ru_eq {j i : Nat} : ru R j i x = rrow R j (upd (R j) i x) := by
  funext a b; unfold ru rrow upd
  by_cases h : a = j <;> simp [h]
theorem ru_rrow_c {j j2 i : Nat} {f : Nat → Int32} (h : j ≠ j2) : ru (rrow R j f) j2 i x = rrow (ru R j2 i x) j f := by
  funext a b; unfold ru rrow
  by_cases h1 : a = j
  · subst h1; simp [h]
  · simp [h1]
theorem rc_0 {f : Nat → Int32} : zup (rput g m R M) (m + 1) (.inl (zA g 0, 240, .inl f)) = rput g m (rrow R 0 f) M := by
  refine rz_ext (fun b => ?_) rfl
  by_cases h : b = m + 1
  · subst h; rw [zup_self, rp_0, rrow_s]
  · rw [zup_ne _ _ h]; unfold rput; simp [h, rfs, rrow_n, rrow]
theorem rc_1 {f : Nat → Int32} : zup (rput g m R M) (m + 2) (.inl (zA g 0, 1920, .inl f)) = rput g m (rrow R 1 f) M := by
  refine rz_ext (fun b => ?_) rfl
  by_cases h : b = m + 2
  · subst h; rw [zup_self, rp_1, rrow_s]
  · rw [zup_ne _ _ h]; unfold rput; simp [h, rfs, rrow_n, rrow]
theorem rc_2 {f : Nat → Int32} : zup (rput g m R M) (m + 3) (.inl (zA g 0, 240, .inl f)) = rput g m (rrow R 2 f) M := by
  refine rz_ext (fun b => ?_) rfl
  by_cases h : b = m + 3
  · subst h; rw [zup_self, rp_2, rrow_s]
  · rw [zup_ne _ _ h]; unfold rput; simp [h, rfs, rrow_n, rrow]
theorem rc_3 {f : Nat → Int32} : zup (rput g m R M) (m + 4) (.inl (zA g 0, 240, .inl f)) = rput g m (rrow R 3 f) M := by
  refine rz_ext (fun b => ?_) rfl
  by_cases h : b = m + 4
  · subst h; rw [zup_self, rp_3, rrow_s]
  · rw [zup_ne _ _ h]; unfold rput; simp [h, rfs, rrow_n, rrow]
def shf (f : Nat → Int32) (n : Nat) : Nat → Int32 := fun i => if i < n then f (i + 240) else f i
theorem shf_s {f : Nat → Int32} {n : Nat} : upd (shf f n) n (shf f n (n + 240)) = shf f (n + 1) := by
  funext i
  unfold upd shf
  by_cases h : i = n
  · subst h; rw [if_pos rfl, if_neg (by omega), if_pos (by omega)]
  · rw [if_neg h]
    by_cases h2 : i < n
    · rw [if_pos h2, if_pos (by omega)]
    · rw [if_neg h2, if_neg (by omega)]
def rKeep1 (R : Nat → Nat → Int32) (f : Nat → Int32) : Nat → Nat → Int32 := ru (rrow R 1 (cpy f 0 (R 1) (240 * R 7 5 : Int32).toNatClampNeg 240)) 7 5 (R 7 5 + 1)
def rKeep (R : Nat → Nat → Int32) (j : Nat) : Nat → Nat → Int32 := if R 7 6 = 0 then (if R 7 5 = 8 then rKeep1 (ru (rrow (ru R 7 8 0) 1 (shf (R 1) 1680)) 7 5 (R 7 5 - 1)) (R j) else rKeep1 (ru R 7 8 0) (R j)) else ru R 7 8 0
/-- g or before: the row of cells -/
def rowA (m j : Nat) : Nat := if j = 0 then m + 1 else m + 4
theorem rowA_at {j : Nat} (hj : j = 0 ∨ j = 3) : (rput g m R M).1 (rowA m j) = some (.inl (zA g 0, 240, .inl (R j))) := by
  rcases hj with rfl | rfl
  · exact rp_0
  · exact rp_3
theorem rowA_ne {j : Nat} : rowA m j ≠ m + 2 := by unfold rowA; split <;> omega
theorem c6_keeps (hV : zV g) {j : Nat} (hj : j = 0 ∨ j = 3) (hc : ∃ c : Nat, c ≤ 8 ∧ R 7 5 = nI c) : tX6_keeps g [.ref m, .ref (rowA m j)] (rput g m R M) nX6_keeps 0 0 (zQv (rput g m (rKeep R j) M)) := by
  obtain ⟨c, hc8, hc⟩ := hc
  refine eX6_keeps rfl hV ?_
  -- the second half: changes below 8
  have fin : ∀ (R2 : Nat → Nat → Int32) (o2 : Option Value), (∃ c : Nat, c ≤ 7 ∧ R2 7 5 = nI c) → Z g kX6_keeps (zQv (rput g m (rKeep1 R2 (R2 j)) M)) nX6_keeps 0 0 (rput g m R2 M) 63 [some (.ref m), some (.ref (rowA m j)), o2] [] := by
    intro R2 o2 h2
    obtain ⟨c2, hc2, e2⟩ := h2
    have e3 : (240 * R2 7 5 : Int32) = nI (240 * c2) := by rw [e2, show (240 : Int32) = nI 240 from rfl, pk_mul]
    refine sX6_keeps_63 rp_o rfl rfl ?_
    refine iX6_keeps_77 (c6_copies hV (rowA_at hj) rp_1 rowA_ne (show (0 : Int32) = nI 0 from rfl) e3 (by omega) (by omega) (by decide) (by decide)) (zpv ?_)
    rw [rc_1]
    refine sX6_keeps_80 rp_o rfl (Nat.le_of_ble_eq_true rfl) ?_
    rw [rs_5, rf_r]
    refine zqv ?_
    unfold rKeep1
    rw [show (rrow R2 1 (cpy (R2 j) 0 (R2 1) (240 * c2) 240)) 7 5 = R2 7 5 from rfl, cl_nI e3 (by omega)]
  refine sX6_keeps_0 rp_o (Nat.le_of_ble_eq_true rfl) rfl (fun c_0 => ?_) (fun c_0 => ?_)
  · have e6 : R 7 6 = 0 := c_0
    rw [rs_8, rf_r]
    refine sX6_keeps_13 rp_o rfl (fun c_13 => ?_) (fun c_13 => ?_)
    · have e5 : ¬ R 7 5 = 8 := c_13
      unfold rKeep
      rw [if_pos e6, if_neg e5]
      have hr : (ru R 7 8 0) j = R j := by rcases hj with rfl | rfl <;> rfl
      have := fin (ru R 7 8 0) none ⟨c, ?_, hc⟩
      · rw [hr] at this
        exact this
      · rcases Nat.lt_or_ge c 8 with h | h
        · omega
        · exact absurd (by rw [hc, show c = 8 by omega]; rfl) e5
    · have e5 : R 7 5 = 8 := c_13
      unfold rKeep
      rw [if_pos e6, if_pos e5]
      refine sX6_keeps_22 ?_
      generalize hR1 : ru R 7 8 0 = R1
      have h1 : R1 1 = R 1 := by rw [← hR1]; rfl
      have hr : R1 j = R j := by rw [← hR1]; rcases hj with rfl | rfl <;> rfl
      have h5 : R1 7 5 = R 7 5 := by rw [← hR1]; rfl
      have key := zdown (P := fun i => Z g kX6_keeps (zQv (rput g m (rKeep1 (ru (rrow R1 1 (shf (R 1) 1680)) 7 5 (R 7 5 - 1)) (R j)) M)) nX6_keeps 0 0 (rput g m (rrow R1 1 (shf (R 1) i)) M) 24 [some (.ref m), some (.ref (rowA m j)), some (.int (nI i))] []) 1680 ?_ (fun i hi ih => ?_) 0 (Nat.zero_le _)
      · rw [show shf (R 1) 0 = R1 1 from by rw [h1]; funext i; simp [shf], rrow_id] at key
        exact key
      · refine sX6_keeps_24 (fun c_24 => ?_) (fun c_24 => absurd (Int32.le_refl _) c_24)
        refine sX6_keeps_53 rp_o rfl (Nat.le_of_ble_eq_true rfl) ?_
        rw [rs_5, rf_r]
        have e7 : (rrow R1 1 (shf (R 1) 1680)) 7 5 = R 7 5 := by rw [← h5]; rfl
        rw [e7]
        have := fin (ru (rrow R1 1 (shf (R 1) 1680)) 7 5 (R 7 5 - 1)) (some (.int (nI 1680))) ⟨7, by decide, by rw [e5]; rfl⟩
        have hr2 : (ru (rrow R1 1 (shf (R 1) 1680)) 7 5 (R 7 5 - 1)) j = R j := by
          rw [← hr]; rcases hj with rfl | rfl <;> rfl
        rw [hr2] at this
        exact this
      · refine sX6_keeps_24 (fun c_24 => absurd c_24 (nI_ge hi (by decide))) (fun c_24 => ?_)
        have e8 : (nI i + 240 : Int32) = nI (i + 240) := nI_add i 240
        refine sX6_keeps_31 rp_o rfl rp_1 (vp_nI e8 (by omega) (by decide)) (vp_in_nI (by omega) (by decide)) ?_
        rw [cl_nI e8 (by omega), nI_clamp (by omega), rc_1, nI_1, rrow_s, shf_s, rrow_rrow]
        exact ih
  · have e6 : ¬ R 7 6 = 0 := c_0
    rw [rs_8, rf_r]
    refine sX6_keeps_12 (zqv ?_)
    unfold rKeep
    rw [if_neg e6]
end RO
