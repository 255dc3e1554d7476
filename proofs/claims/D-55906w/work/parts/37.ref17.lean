/-! ErrataPressModel: refusal, account, isWell, thrown, errorPosition -/
section RY
variable {g : ZG} {m : Nat} {R K : Nat → Nat → Int32} {M : ZM} {s w h k x y c b d : Int32} {n S r : Nat} {q f : Nat → Int32}
theorem c6_thrown (hV : zV g) : tX6_thrown g [.ref m] (rput g m R M) nX6_thrown 0 0 (zQp (rput g m R M) (.int (R 7 8))) := by
  refine eX6_thrown hV ?_
  exact sX6_thrown_0 rp_o rfl (zqi rfl)
theorem c6_errorPosition (hV : zV g) : tX6_errorPosition g [.ref m] (rput g m R M) nX6_errorPosition 0 0 (zQo g m M (ru R 7 8 0, R 7 15)) := by
  refine eX6_errorPosition hV ?_
  refine sX6_errorPosition_0 rp_o (Nat.le_of_ble_eq_true rfl) rfl ?_
  rw [rs_8, rf_r]
  exact zqo rfl
def oRefu (R : Nat → Nat → Int32) (b d : Int32) : (Nat → Nat → Int32) × Int32 :=
  if (if b = 0 then R 7 9 else R 7 11) = 0 then (rFail R 1, 0) else (rFail R 0, if b = 0 then (if d = 0 then R 7 9 else R 7 10) else if d = 0 then R 7 11 else R 7 12)
theorem c6_refusal (hV : zV g) : tX6_refusal g [.ref m, .int b, .int d] (rput g m R M) nX6_refusal 0 0 (zQo g m M (oRefu R b d)) := by
  refine eX6_refusal hV ?_
  repeat' (first
    | exact absurd c_27 (by decide)
    | exact absurd rfl c_27
    | exact absurd c_0 c_32
    | exact absurd c_32 c_0
    | refine sX6_refusal_0 (fun c_0 => ?_) (fun c_0 => ?_)
    | refine sX6_refusal_5 rp_o rfl ?_
    | refine sX6_refusal_12 rp_o rfl ?_
    | refine sX6_refusal_16 (fun c_16 => ?_) (fun c_16 => ?_)
    | refine sX6_refusal_19 ?_
    | refine sX6_refusal_23 ?_
    | refine sX6_refusal_27 (fun c_27 => ?_) (fun c_27 => ?_)
    | refine sX6_refusal_30 ?_
    | refine sX6_refusal_32 (fun c_32 => ?_) (fun c_32 => ?_)
    | refine sX6_refusal_36 (fun c_36 => ?_) (fun c_36 => ?_)
    | refine sX6_refusal_40 rp_o rfl ?_
    | refine sX6_refusal_47 rp_o rfl ?_
    | refine sX6_refusal_54 (fun c_54 => ?_) (fun c_54 => ?_)
    | refine sX6_refusal_58 rp_o rfl ?_
    | refine sX6_refusal_65 rp_o rfl ?_
    | refine sX6_refusal_69 ?_
    | refine iX6_refusal_24 (c6_fails hV) rp_is (zpr ?_)
    | with_reducible exact zqi rfl
    | simp only [rs_4, rs_5, rs_6, rs_7, rs_8, rs_9, rs_10, rs_11, rs_12, rs_14, rs_15, rs_17, rs_18, rs_20, rf_r, ra_0, ra_1, ra_2, ra_3, ra_4, ra_5, ra_6, rFail_0]
    | fail)
  · refine zqo ?_; unfold oRefu; simp only [if_pos c_0, if_pos c_54, if_neg c_16]; rfl
  · refine zqo ?_; unfold oRefu; simp only [if_pos c_0, if_neg c_54, if_neg c_16]; rfl
  · refine zqo ?_; unfold oRefu; simp only [if_pos c_0, if_pos c_16]
  · refine zqo ?_; unfold oRefu; simp only [if_neg c_0, if_pos c_36, if_neg c_16]; rfl
  · refine zqo ?_; unfold oRefu; simp only [if_neg c_0, if_neg c_36, if_neg c_16]; rfl
  · refine zqo ?_; unfold oRefu; simp only [if_neg c_0, if_pos c_16]
def vAcc (R : Nat → Nat → Int32) (w : Int32) : Int32 :=
  if w = 5 ∨ w = 6 ∨ w = 7 then fAll (R 0) (w - 4) else if w = 8 then R 0 5 else if w = 9 then R 0 6 else if w = 10 then R 0 7 else if w = 11 then R 0 8
  else if w = 12 then fSummed (R 0) 0 else if w = 13 then R 7 14 else if w = 14 then R 7 5 else R 0 w.toNatClampNeg
def oAcc (R : Nat → Nat → Int32) (w : Int32) : (Nat → Nat → Int32) × Int32 := if 0 ≤ w ∧ w ≤ 14 then (rFail R 0, vAcc R w) else (rFail R 1, 0)
theorem c6_account (hV : zV g) (H : Inv (R 0) n S r) : tX6_account g [.ref m, .int w] (rput g m R M) nX6_account 0 0 (zQo g m M (oAcc R w)) := by
  refine eX6_account hV ?_
  have hG := H.gse
  have hH := H.ghe
  repeat' (first
    | exact absurd c_19 (by decide)
    | with_reducible exact hG
    | with_reducible exact hH
    | with_reducible exact vl5
    | with_reducible exact vl6
    | with_reducible exact vl7
    | with_reducible exact vl8
    | exact ⟨0, by decide, rfl⟩
    | refine sX6_account_0 ?_
    | refine sX6_account_8 (fun c_8 => ?_) (fun c_8 => ?_)
    | refine sX6_account_11 ?_
    | refine sX6_account_15 ?_
    | refine sX6_account_19 (fun c_19 => ?_) (fun c_19 => ?_)
    | refine sX6_account_22 ?_
    | refine sX6_account_24 ?_
    | refine sX6_account_80 ?_
    | refine sX6_account_87 ?_
    | refine sX6_account_88 rp_o rfl rp_0 ?_ ?_
    | refine sX6_account_95 rp_o rfl rp_0 ?_ ?_
    | refine sX6_account_103 rp_o rfl rp_0 ?_ ?_
    | refine sX6_account_111 rp_o rfl rp_0 ?_ ?_
    | refine sX6_account_119 ?_
    | refine sX6_account_124 ?_
    | refine sX6_account_125 rp_o rfl ?_
    | refine sX6_account_130 rp_o rfl ?_
    | refine iX6_account_5 (c6_in hV) (zpr ?_)
    | refine iX6_account_16 (c6_fails hV) rp_is (zpr ?_)
    | refine iX6_account_84 (c6_all hV ?_) rp_is (zpr ?_)
    | refine iX6_account_121 (c6_summed hV ?_ ?_) rp_is (zpr ?_)
    | refine wX6_account_25 (fun c_25_80 => ?_) (fun c_25_88 => ?_) (fun c_25_95 => ?_) (fun c_25_103 => ?_) (fun c_25_111 => ?_) (fun c_25_119 => ?_) (fun c_25_125 => ?_) (fun c_25_130 => ?_) (fun c_25_135 => ?_)
    | with_reducible exact zqi rfl
    | simp only [rs_4, rs_5, rs_6, rs_7, rs_8, rs_9, rs_10, rs_11, rs_12, rs_14, rs_15, rs_17, rs_18, rs_20, rf_r, ra_0, ra_1, ra_2, ra_3, ra_4, ra_5, ra_6, rFail_0]
    | fail)
  · exact zqo (by unfold oAcc; rw [if_neg (bI_no c_8)])
  all_goals have hw := bI_yes c_8
  · exact zqo (by unfold oAcc vAcc; rw [if_pos hw, if_pos c_25_80])
  · subst c_25_88; exact zqo rfl
  · subst c_25_95; exact zqo rfl
  · subst c_25_103; exact zqo rfl
  · subst c_25_111; exact zqo rfl
  · subst c_25_119; exact zqo rfl
  · subst c_25_125; exact zqo rfl
  · subst c_25_130; exact zqo rfl
  · obtain ⟨h5, h6, h7, h8, h9, h10, h11, h12, h13, h14⟩ := c_25_135
    obtain ⟨j, hj, rfl⟩ := rng (N := 15) (by decide) hw.1 hw.2
    refine sX6_account_135 rp_o rfl rp_0 (vp_in_nI (by omega) (by decide)) (zqo ?_)
    unfold oAcc vAcc
    rw [if_pos hw, if_neg (fun h => h.elim h5 (fun h => h.elim h6 h7)), if_neg h8, if_neg h9, if_neg h10, if_neg h11, if_neg h12, if_neg h13, if_neg h14]
    rfl
def fWell (q : Nat → Int32) (S : Nat) : Prop := ∀ i, i < S → ∀ j, j < gz q i → (¬ q (40 + 26 * i + j) ≤ 0 ↔ ¬ fBad q (nI i) (nI j) ≤ 0)
theorem c6_isWell (hV : zV g) (H : Inv (R 0) n S r) (hW : fWell (R 0) S) : tX6_isWell g [.ref m] (rput g m R M) nX6_isWell 0 0 (zQo g m M (ru R 7 8 0, 1)) := by
  refine eX6_isWell hV ?_
  have hS : R 0 1 = nI S := H.2.2.1
  have hS8 := H.2.2.2.1
  have hr0 : (ru R 7 8 0) 0 = R 0 := rfl
  refine sX6_isWell_0 rp_o (Nat.le_of_ble_eq_true rfl) ?_
  rw [rs_8, rf_r]
  have key := zdown (P := fun j => ∀ o, Z g kX6_isWell (zQo g m M (ru R 7 8 0, 1)) nX6_isWell 0 0 (rput g m (ru R 7 8 0) M) 7 [some (.ref m), some (.int (nI j)), o] []) S (fun o => ?_) (fun j hj ih o => ?_) 0 (Nat.zero_le _)
  · exact key _
  · refine sX6_isWell_7 rp_o rfl rp_0 vl1 (fun _ => ?_) (fun c => absurd (le_nI0 hS) c)
    exact sX6_isWell_74 (zqo rfl)
  · obtain ⟨hl, hz⟩ := H.sl hj
    have hsO := H.sok hj
    refine sX6_isWell_7 rp_o rfl rp_0 vl1 (fun c => absurd c (le_nI hS (by omega) hj)) (fun _ => sX6_isWell_17 ?_)
    have key2 := zdown (P := fun k => Z g kX6_isWell (zQo g m M (ru R 7 8 0, 1)) nX6_isWell 0 0 (rput g m (ru R 7 8 0) M) 19 [some (.ref m), some (.int (nI j)), some (.int (nI k))] []) (gz (R 0) j) ?_ (fun k hk ihk => ?_) 0 (Nat.zero_le _)
    · exact key2
    · refine sX6_isWell_19 (iX6_isWell_23 (c6_of hV hsO.a1) rp_is (zpr ?_))
      rw [hr0, hl]
      refine sX6_isWell_26 (fun _ => ?_) (fun c => absurd (Int32.le_refl _) c)
      refine sX6_isWell_68 ?_
      rw [nI_1]
      exact ih _
    · have hkO : KOk (nI k) := ⟨k, by omega, rfl⟩
      refine sX6_isWell_19 (iX6_isWell_23 (c6_of hV hsO.a1) rp_is (zpr ?_))
      rw [hr0, hl]
      refine sX6_isWell_26 (fun c => absurd c (nI_ge hk (by omega))) (fun _ => ?_)
      refine sX6_isWell_29 (iX6_isWell_32 (c6_mark hV (hkO.k18 hsO)) rp_is (zpr ?_))
      rw [hr0, fOf_18 _ _ (by omega)]
      have hw := hW j hj k hk
      have nxt : Z g kX6_isWell (zQo g m M (ru R 7 8 0, 1)) nX6_isWell 0 0 (rput g m (ru R 7 8 0) M) 62 [some (.ref m), some (.int (nI j)), some (.int (nI k))] [] := by
        refine sX6_isWell_62 ?_
        rw [nI_1]
        exact ihk
      refine sX6_isWell_35 (fun c => ?_) (fun c => ?_)
      · refine sX6_isWell_42 (sX6_isWell_43 (iX6_isWell_46 (c6_bad hV (hkO.k10 hsO) (hkO.k2 hsO)) rp_is (zpr ?_)))
        rw [hr0]
        refine sX6_isWell_49 (fun c2 => ?_) (fun c2 => absurd c (hw.mpr c2))
        exact sX6_isWell_56 (sX6_isWell_57 (fun _ => nxt) (fun c => absurd rfl c))
      · refine sX6_isWell_38 (sX6_isWell_43 (iX6_isWell_46 (c6_bad hV (hkO.k10 hsO) (hkO.k2 hsO)) rp_is (zpr ?_)))
        rw [hr0]
        refine sX6_isWell_49 (fun c2 => absurd c2 (hw.mp c)) (fun c2 => ?_)
        exact sX6_isWell_52 (sX6_isWell_57 (fun _ => nxt) (fun c => absurd rfl c))
theorem cpy_all {a b : Nat} {f t : Nat → Int32} (h : ∀ i, ¬ i < 240 → f i = t i) : cpy f 0 t 0 240 = f := by
  funext i
  unfold cpy
  by_cases hi : i < 240
  · rw [if_pos ⟨by omega, by omega⟩, Nat.zero_add, Nat.sub_zero]
  · rw [if_neg (by omega), h i hi]
def row (f : Nat → Int32) (a : Nat) : Nat → Int32 := fun i => f (a + i)
def oUndo (R : Nat → Nat → Int32) : (Nat → Nat → Int32) × Int32 :=
  if R 7 5 = 0 then (rFail R 1, 0) else (rrow (ru (rFail R 0) 7 5 (R 7 5 - 1)) 0 (cpy (R 1) (240 * ((R 7 5).toNatClampNeg - 1)) (R 0) 0 240), R 7 5 - 1)
theorem c6_undo (hV : zV g) (hc : Ch R) : tX6_undo g [.ref m] (rput g m R M) nX6_undo 0 0 (zQo g m M (oUndo R)) := by
  obtain ⟨c, hc8, hc⟩ := hc
  refine eX6_undo hV ?_
  refine sX6_undo_0 rp_o rfl (fun c0 => ?_) (fun c0 => ?_)
  · have c0' : ¬ R 7 5 = 0 := c0
    have hcp : 0 < c := by
      rcases Nat.eq_zero_or_pos c with h | h
      · exact absurd (by rw [hc, h]; rfl) c0'
      · exact h
    obtain ⟨c', rfl⟩ : ∃ c', c = c' + 1 := ⟨c - 1, by omega⟩
    refine sX6_undo_12 (iX6_undo_13 (c6_fails hV) rp_is (zpr ?_))
    refine sX6_undo_16 (fun _ => ?_) (fun c => absurd (by decide) c)
    refine sX6_undo_21 rp_o rfl (Nat.le_of_ble_eq_true rfl) rfl rfl rfl ?_
    rw [rs_5, rf_r]
    have e1 : (rFail R 0) 7 5 = nI (c' + 1) := hc
    rw [e1, nI_pred]
    have e2 : (240 * nI c' : Int32) = nI (240 * c') := by rw [show (240 : Int32) = nI 240 from rfl, pk_mul]
    refine iX6_undo_48 (c6_copies hV rp_1 rp_0 (by omega) e2 (show (0 : Int32) = nI 0 from rfl) (by omega) (by decide) (by decide) (by decide)) (zpv ?_)
    rw [rc_0]
    refine sX6_undo_51 rp_o rfl (zqo ?_)
    unfold oUndo
    rw [if_neg c0', hc, nI_pred, nI_clamp (by omega)]
    rfl
  · refine sX6_undo_8 (iX6_undo_13 (c6_fails hV) rp_is (zpr ?_))
    refine sX6_undo_16 (fun c => absurd c (by decide)) (fun _ => sX6_undo_19 (zqo ?_))
    unfold oUndo
    rw [if_pos (show R 7 5 = 0 from c0)]
def oSave (R : Nat → Nat → Int32) (S : Nat) : (Nat → Nat → Int32) × Int32 := (rrow (ru (ru R 7 8 0) 7 4 1) 2 (cpy (R 0) 0 (R 2) 0 240), nI S)
theorem c6_save (hV : zV g) (H : Inv (R 0) n S r) : tX6_save g [.ref m] (rput g m R M) nX6_save 0 0 (zQo g m M (oSave R S)) := by
  refine eX6_save hV ?_
  refine sX6_save_0 rp_o (Nat.le_of_ble_eq_true rfl) (Nat.le_of_ble_eq_true rfl) rfl rfl ?_
  rw [rs_8, rs_4, rf_r, rf_r]
  refine iX6_save_20 (c6_copies hV rp_0 rp_2 (by omega) (show (0 : Int32) = nI 0 from rfl) (show (0 : Int32) = nI 0 from rfl) (by decide) (by decide) (by decide) (by decide)) (zpv ?_)
  rw [rc_2]
  refine sX6_save_23 rp_o rfl rp_0 vl1 (zqo ?_)
  unfold oSave
  rw [← H.2.2.1]
  rfl
def oRest (R : Nat → Nat → Int32) : (Nat → Nat → Int32) × Int32 :=
  if R 7 4 = 0 then (rFail R 1, 0) else (ru (rrow (rFail R 0) 0 (cpy (R 2) 0 (R 0) 0 240)) 7 5 0, R 2 1)
theorem c6_restore (hV : zV g) : tX6_restore g [.ref m] (rput g m R M) nX6_restore 0 0 (zQo g m M (oRest R)) := by
  refine eX6_restore hV ?_
  refine sX6_restore_0 rp_o rfl (fun c0 => ?_) (fun c0 => ?_)
  · refine sX6_restore_12 (iX6_restore_13 (c6_fails hV) rp_is (zpr ?_))
    refine sX6_restore_16 (fun c => absurd c (by decide)) (fun _ => sX6_restore_19 (zqo ?_))
    unfold oRest
    rw [if_pos (show R 7 4 = 0 from c0)]
  · refine sX6_restore_8 (iX6_restore_13 (c6_fails hV) rp_is (zpr ?_))
    refine sX6_restore_16 (fun _ => ?_) (fun c => absurd (by decide) c)
    refine sX6_restore_21 rp_o rfl rfl ?_
    refine iX6_restore_31 (c6_copies hV rp_2 rp_0 (by omega) (show (0 : Int32) = nI 0 from rfl) (show (0 : Int32) = nI 0 from rfl) (by decide) (by decide) (by decide) (by decide)) (zpv ?_)
    rw [rc_0]
    refine sX6_restore_34 rp_o (Nat.le_of_ble_eq_true rfl) rfl (by rw [rs_5, rf_r]; exact rp_0) vl1 ?_
    rw [rs_5, rf_r]
    refine zqo ?_
    unfold oRest
    rw [if_neg (show ¬ R 7 4 = 0 from c0)]
    rfl
end RY
