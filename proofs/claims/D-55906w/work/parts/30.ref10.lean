/-! ErrataPressModel: sheet, take -/
section RQ2
variable {g : ZG} {m : Nat} {R : Nat → Nat → Int32} {M : ZM} {s w h k x y c : Int32} {n S r : Nat}
def stp (f : Nat → Int32) (S L w j : Nat) : Nat → Int32 := fun i => if 24 + 26 * S + j ≤ i ∧ i < 24 + 26 * S + L then nI (w / 10 ^ (L - 1 - (i - (24 + 26 * S))) % 10) else if 32 + 26 * S + j ≤ i ∧ i < 32 + 26 * S + L then nI (w / 10 ^ (L - 1 - (i - (32 + 26 * S))) % 10) else f i
theorem stp_L {f : Nat → Int32} {S L w : Nat} : stp f S L w L = f := by
  funext i; unfold stp; rw [if_neg (by omega), if_neg (by omega)]
theorem stp_s {f : Nat → Int32} {S L w j : Nat} {d : Int32} (hj : j < L) (hL : L ≤ 8) (hd : d = nI (w / 10 ^ (L - 1 - j) % 10)) : upd (upd (stp f S L w (j + 1)) (24 + 26 * S + j) d) (32 + 26 * S + j) d = stp f S L w j := by
  funext i
  unfold upd stp
  by_cases h1 : i = 32 + 26 * S + j
  · rw [if_pos h1, if_neg (by omega), if_pos (by omega), hd, show i - (32 + 26 * S) = j by omega]
  · rw [if_neg h1]
    by_cases h2 : i = 24 + 26 * S + j
    · rw [if_pos h2, if_pos (by omega), hd, show i - (24 + 26 * S) = j by omega]
    · rw [if_neg h2]
      by_cases h3 : 24 + 26 * S + j ≤ i ∧ i < 24 + 26 * S + L
      · rw [if_pos h3, if_pos (by omega)]
      · rw [if_neg h3, if_neg (by omega)]
        by_cases h4 : 32 + 26 * S + j ≤ i ∧ i < 32 + 26 * S + L
        · rw [if_pos h4, if_pos (by omega)]
        · rw [if_neg h4, if_neg (by omega)]
/-- a new sheet: owner o, the word's letters right and set -/
def gSheet (q : Nat → Int32) (S : Nat) (o : Int32) (w : Nat) : Nat → Int32 := stp (upd (upd (fil (upd q 1 (nI (S + 1))) (22 + 26 * S) 26) (22 + 26 * S) o) (23 + 26 * S) (nI (dg w).length)) S (dg w).length w 0
def oSheet (R : Nat → Nat → Int32) (S : Nat) (h x : Int32) : (Nat → Nat → Int32) × Int32 :=
  if fIsH (R 0) h = 0 then (rFail R 1, 0) else if fLetters x = 0 then (rFail R 2, 0) else if S = 8 then (rRef (rFail R 0) 3 1 8, 0) else (kept R (gSheet (R 0) S h x.toNatClampNeg), nI S)
theorem fLetters_n (hx : ¬ fLetters x = 0) : ∃ w : Nat, w < 2 ^ 31 ∧ x = nI w ∧ isW w ∧ x.toNatClampNeg = w ∧ fLetters x = nI (dg w).length := by
  unfold fLetters at hx ⊢
  by_cases hw : isW x.toNatClampNeg
  · have hn : ¬ x < 0 := by
      intro hl
      have e : x.toNatClampNeg = 0 := by
        have : x.toInt < 0 := Int32.lt_iff_toInt_lt.mp hl
        unfold Int32.toNatClampNeg; omega
      rw [e] at hw
      have := hw.2.1
      rw [dg_0] at this
      exact absurd this (by decide)
    obtain ⟨w, hw31, rfl⟩ := nI_of hn
    rw [nI_clamp hw31] at hw ⊢
    exact ⟨w, hw31, rfl, hw, rfl, if_pos hw⟩
  · exact absurd (if_neg hw) hx
theorem nI_m1 {j : Nat} : (nI j + (-1) : Int32) = nI j - 1 := by rw [Int32.sub_eq_add_neg]
theorem nI_m1s {j : Nat} : (nI (j + 1) - 1 : Int32) = nI j := nI_pred j
theorem c6_sheet (hV : zV g) (H : Inv (R 0) n S r) (hc : Ch R) : tX6_sheet g [.ref m, .int h, .int x] (rput g m R M) nX6_sheet 0 0 (zQo g m M (oSheet R S h x)) := by
  have hS : R 0 1 = nI S := H.2.2.1
  have hS8 := H.2.2.2.1
  refine eX6_sheet hV ?_
  repeat' (first
    | exact absurd c_28 (by decide)
    | with_reducible exact vl1
    | refine sX6_sheet_0 ?_
    | refine sX6_sheet_6 (fun c_6 => ?_) (fun c_6 => ?_)
    | refine sX6_sheet_9 ?_
    | refine sX6_sheet_13 ?_
    | refine sX6_sheet_17 (fun c_17 => ?_) (fun c_17 => ?_)
    | refine sX6_sheet_20 ?_
    | refine sX6_sheet_24 ?_
    | refine sX6_sheet_28 (fun c_28 => ?_) (fun c_28 => ?_)
    | refine sX6_sheet_31 ?_
    | refine sX6_sheet_33 rp_o rfl rp_0 ?_ (fun c_33 => ?_) (fun c_33 => ?_)
    | refine sX6_sheet_44 ?_
    | refine sX6_sheet_52 ?_
    | refine sX6_sheet_53 rp_o rfl ?_
    | refine sX6_sheet_61 rp_o rfl rp_0 ?_ ?_
    | refine sX6_sheet_88 ?_
    | refine sX6_sheet_96 ?_
    | refine sX6_sheet_102 ?_
    | refine sX6_sheet_109 ?_
    | refine sX6_sheet_119 ?_
    | refine sX6_sheet_126 ?_
    | refine sX6_sheet_135 ?_
    | refine sX6_sheet_149 ?_
    | refine sX6_sheet_164 ?_
    | refine sX6_sheet_177 ?_
    | refine iX6_sheet_3 (c6_isHouse hV) rp_is (zpr ?_)
    | refine iX6_sheet_14 (c6_letters hV) (zpr ?_)
    | refine iX6_sheet_25 (c6_fails hV) rp_is (zpr ?_)
    | refine iX6_sheet_49 (c6_refuses hV) rp_is (zpr ?_)
    | refine iX6_sheet_93 (c6_lays hV ?_) rp_is (zpv ?_)
    | refine iX6_sheet_106 (c6_lays hV ?_) rp_is (zpv ?_)
    | refine iX6_sheet_113 (c6_letters hV) (zpr ?_)
    | refine iX6_sheet_116 (c6_lays hV ?_) rp_is (zpv ?_)
    | refine iX6_sheet_123 (c6_letters hV) (zpr ?_)
    | refine iX6_sheet_146 (c6_lays hV ?_) rp_is (zpv ?_)
    | refine iX6_sheet_161 (c6_lays hV ?_) rp_is (zpv ?_)
    | with_reducible exact zqi rfl
    | simp only [rs_4, rs_5, rs_6, rs_7, rs_8, rs_9, rs_10, rs_11, rs_12, rs_14, rs_15, rs_17, rs_18, rs_20, rf_r, ra_0, ra_1, ra_2, ra_3, ra_4, ra_5, ra_6, rFail_0]
    | fail)
  · have e8 : ¬ S = 8 := fun h => c_33 (by rw [← show nI 8 = 8 from rfl, ← h]; exact hS)
    obtain ⟨w, hw, rfl, hW, ew, eL⟩ := fLetters_n c_17
    have hL := hW.2
    refine iX6_sheet_58 (c6_keepsk hV hc) rp_is (zpv ?_)
    refine sX6_sheet_61 rp_o rfl kp_0 vl1 ?_
    rw [kc_0, show R 0 (1 : Int32).toNatClampNeg = nI S from hS, nI_1, show (1 : Int32).toNatClampNeg = 1 from rfl]
    have key := zdown (P := fun j => Z g kX6_sheet (zQo g m M (oSheet R S h (nI w))) nX6_sheet 0 0 (rput g m (kept R (fil (upd (R 0) 1 (nI (S + 1))) (22 + 26 * S) j)) M) 81 [some (.ref m), some (.int h), some (.int (nI w)), some (.int (nI S)), some (.int (nI j)), none] []) 26 ?_ (fun j hj ih => ?_) 0 (Nat.zero_le _)
    · rw [fil_0] at key
      exact key
    · refine sX6_sheet_81 (fun _ => ?_) (fun c => absurd (Int32.le_refl _) c)
      refine sX6_sheet_102 ?_
      refine iX6_sheet_106 (c6_laysk hV (i := 22 + 26 * S) (by rw [show (0 : Int32) = nI 0 from rfl, ixS]; rfl) (by omega)) rp_is (zpv ?_)
      refine sX6_sheet_109 ?_
      refine iX6_sheet_113 (c6_letters hV) (zpr ?_)
      rw [eL]
      refine iX6_sheet_116 (c6_laysk hV (i := 23 + 26 * S) (by rw [show (1 : Int32) = nI 1 from rfl, ixS]; congr 1; omega) (by omega)) rp_is (zpv ?_)
      refine sX6_sheet_119 ?_
      refine iX6_sheet_123 (c6_letters hV) (zpr ?_)
      rw [eL]
      refine sX6_sheet_126 ?_
      generalize hf1 : upd (upd (fil (upd (R 0) 1 (nI (S + 1))) (22 + 26 * S) 26) (22 + 26 * S) h) (23 + 26 * S) (nI (dg w).length) = f1
      have loop : ∀ j, j ≤ (dg w).length → Z g kX6_sheet (zQo g m M (oSheet R S h (nI w))) nX6_sheet 0 0 (rput g m (kept R (stp f1 S (dg w).length w j)) M) 130 [some (.ref m), some (.int h), some (.int (nI w)), some (.int (nI S)), some (.int (nI (w / 10 ^ ((dg w).length - j)))), some (.int (nI j - 1))] [] := by
        intro j
        induction j with
        | zero =>
          intro _
          refine sX6_sheet_130 (fun _ => ?_) (fun c => absurd (by decide +kernel) c)
          refine sX6_sheet_177 (zqo ?_)
          unfold oSheet gSheet
          rw [if_neg c_6, if_neg c_17, if_neg e8, ew, hf1]
        | succ j ih =>
          intro hj
          have hdiv : w / 10 ^ ((dg w).length - (j + 1)) / 10 = w / 10 ^ ((dg w).length - j) := by
            rw [Nat.div_div_eq_div_mul, ← Nat.pow_succ, show ((dg w).length - (j + 1)).succ = (dg w).length - j by omega]
          have hlt : w / 10 ^ ((dg w).length - (j + 1)) < 2 ^ 31 := Nat.lt_of_le_of_lt (Nat.div_le_self _ _) hw
          rw [nI_m1s]
          refine sX6_sheet_130 (fun c => absurd c (nI_pos (by omega))) (fun _ => ?_)
          refine sX6_sheet_135 ?_
          rw [nI_rem hlt]
          refine iX6_sheet_146 (c6_laysk hV (i := 24 + 26 * S + j) (by rw [show (2 + nI j : Int32) = nI (2 + j) from nI_add 2 j, ixS]; congr 1; omega) (by omega)) rp_is (zpv ?_)
          refine sX6_sheet_149 ?_
          rw [nI_rem hlt]
          refine iX6_sheet_161 (c6_laysk hV (i := 32 + 26 * S + j) (by rw [show (10 + nI j : Int32) = nI (10 + j) from nI_add 10 j, ixS]; congr 1; omega) (by omega)) rp_is (zpv ?_)
          refine sX6_sheet_164 ?_
          rw [stp_s (by omega) hL.2 (by rw [show (dg w).length - (j + 1) = (dg w).length - 1 - j by omega]), nI_div hlt, hdiv, nI_m1]
          exact ih (by omega)
      have := loop (dg w).length (Nat.le_refl _)
      rw [stp_L, Nat.sub_self, Nat.pow_zero, Nat.div_one] at this
      exact this
    · refine sX6_sheet_81 (fun c => absurd c (nI_ge hj (by decide))) (fun _ => ?_)
      refine sX6_sheet_88 ?_
      refine iX6_sheet_93 (c6_laysk hV (ixS S j) (by omega)) rp_is (zpv ?_)
      refine sX6_sheet_96 ?_
      rw [fil_s, nI_1]
      exact ih
  · have e8 : S = 8 := (nI_eq_lit (by omega) (by decide)).mp ((hS.symm.trans c_33 : nI S = nI 8))
    exact zqo (by unfold oSheet; rw [if_neg c_6, if_neg c_17, if_pos e8])
  · exact zqo (by unfold oSheet; rw [if_neg c_6, if_pos c_17])
  · exact zqo (by unfold oSheet; rw [if_pos c_6])
/-- without sheet s: the ones behind it come one nearer -/
def tk (q : Nat → Int32) (S s j : Nat) : Nat → Int32 := fun i => if i = 1 then nI (S - 1) else if 22 + 26 * s ≤ i ∧ i < j then q (i + 26) else q i
theorem tk_s {q : Nat → Int32} {S s j : Nat} (hj : 22 + 26 * s ≤ j) : upd (tk q S s j) j (tk q S s j (j + 26)) = tk q S s (j + 1) := by
  funext i
  unfold upd tk
  by_cases h : i = j
  · rw [if_pos h, if_neg (by omega), if_neg (by omega), if_neg (by omega), if_pos (by omega), h]
  · rw [if_neg h]
    by_cases h1 : i = 1
    · rw [if_pos h1, if_pos h1]
    · rw [if_neg h1, if_neg h1]
      by_cases h2 : 22 + 26 * s ≤ i ∧ i < j
      · rw [if_pos h2, if_pos (by omega)]
      · rw [if_neg h2, if_neg (by omega)]
def gTake (q : Nat → Int32) (S s : Nat) : Nat → Int32 := fil (tk q S s (22 + 26 * (S - 1))) (22 + 26 * (S - 1)) 26
def oTake (R : Nat → Nat → Int32) (S : Nat) (s : Int32) : (Nat → Nat → Int32) × Int32 :=
  if fIsS (R 0) s = 0 then (rFail R 1, 0) else (kept R (gTake (R 0) S s.toNatClampNeg), nI (S - 1))
theorem c6_take (hV : zV g) (H : Inv (R 0) n S r) (hc : Ch R) : tX6_take g [.ref m, .int s] (rput g m R M) nX6_take 0 0 (zQo g m M (oTake R S s)) := by
  have hS : R 0 1 = nI S := H.2.2.1
  have hS8 := H.2.2.2.1
  refine eX6_take hV ?_
  repeat' (first
    | exact absurd c_17 (by decide)
    | with_reducible exact vl1
    | refine sX6_take_0 ?_
    | refine sX6_take_6 (fun c_6 => ?_) (fun c_6 => ?_)
    | refine sX6_take_9 ?_
    | refine sX6_take_13 ?_
    | refine sX6_take_17 (fun c_17 => ?_) (fun c_17 => ?_)
    | refine sX6_take_20 ?_
    | refine sX6_take_22 rp_o rfl ?_
    | refine sX6_take_30 rp_o rfl rp_0 ?_ ?_
    | refine sX6_take_64 rp_o rfl rp_0 ?_ ?_ ?_
    | refine sX6_take_85 ?_
    | refine sX6_take_93 rp_o rfl rp_0 ?_ ?_
    | refine sX6_take_105 ?_
    | refine sX6_take_111 rp_o rfl rp_0 ?_ ?_
    | refine iX6_take_3 (c6_isSheet hV) rp_is (zpr ?_)
    | refine iX6_take_14 (c6_fails hV) rp_is (zpr ?_)
    | refine iX6_take_102 (c6_lays hV ?_) rp_is (zpv ?_)
    | with_reducible exact zqi rfl
    | simp only [rs_4, rs_5, rs_6, rs_7, rs_8, rs_9, rs_10, rs_11, rs_12, rs_14, rs_15, rs_17, rs_18, rs_20, rf_r, ra_0, ra_1, ra_2, ra_3, ra_4, ra_5, ra_6, rFail_0]
    | fail)
  · exact zqo (by unfold oTake; rw [if_pos c_6])
  · obtain ⟨i, hi, rfl⟩ := H.isS.mp (fIs01S.resolve_left c_6)
    have hcl : (nI i).toNatClampNeg = i := nI_clamp (by omega)
    obtain ⟨S', rfl⟩ : ∃ S', S = S' + 1 := ⟨S - 1, by omega⟩
    refine iX6_take_27 (c6_keepsk hV hc) rp_is (zpv ?_)
    refine sX6_take_30 rp_o rfl kp_0 vl1 ?_
    rw [kc_0, show R 0 (1 : Int32).toNatClampNeg = nI (S' + 1) from hS, nI_pred, show (1 : Int32).toNatClampNeg = 1 from rfl]
    have e0 : upd (R 0) 1 (nI S') = tk (R 0) (S' + 1) i (22 + 26 * i) := by
      funext j; unfold upd tk
      by_cases h1 : j = 1
      · rw [if_pos h1, if_pos h1]; rfl
      · rw [if_neg h1, if_neg h1, if_neg (by omega)]
    have e1 : (22 + 26 * nI i : Int32) = nI (22 + 26 * i) := by
      rw [show (26 : Int32) = nI 26 from rfl, pk_mul, show (22 : Int32) = nI 22 from rfl, nI_add]
    have e2 : (22 + 26 * nI S' : Int32) = nI (22 + 26 * S') := by
      rw [show (26 : Int32) = nI 26 from rfl, pk_mul, show (22 : Int32) = nI 22 from rfl, nI_add]
    rw [e0, e1]
    have ht1 : ∀ j, tk (R 0) (S' + 1) i j 1 = nI S' := fun j => by unfold tk; rw [if_pos rfl]; rfl
    have key := zdown (P := fun j => 22 + 26 * i ≤ j → Z g kX6_take (zQo g m M (oTake R (S' + 1) (nI i))) nX6_take 0 0 (rput g m (kept R (tk (R 0) (S' + 1) i j)) M) 48 [some (.ref m), some (.int (nI i)), some (.int (nI j))] []) (22 + 26 * S') (fun _ => ?_) (fun j hj ih hji => ?_) (22 + 26 * i) (by omega) (Nat.le_refl _)
    · exact key
    · refine sX6_take_48 rp_o rfl kp_0 vl1 (fun _ => ?_) (fun c => absurd (by rw [show (1 : Int32).toNatClampNeg = 1 from rfl, ht1, e2]; exact Int32.le_refl _) c)
      refine sX6_take_85 ?_
      have key2 := zdown (P := fun j => Z g kX6_take (zQo g m M (oTake R (S' + 1) (nI i))) nX6_take 0 0 (rput g m (kept R (fil (tk (R 0) (S' + 1) i (22 + 26 * S')) (22 + 26 * S') j)) M) 87 [some (.ref m), some (.int (nI i)), some (.int (nI j))] []) 26 ?_ (fun j hj ih => ?_) 0 (Nat.zero_le _)
      · rw [fil_0] at key2
        exact key2
      · refine sX6_take_87 (fun _ => ?_) (fun c => absurd (Int32.le_refl _) c)
        refine sX6_take_111 rp_o rfl kp_0 vl1 (zqo ?_)
        have : fil (tk (R 0) (S' + 1) i (22 + 26 * S')) (22 + 26 * S') 26 (1 : Int32).toNatClampNeg = nI S' := by
          rw [show (1 : Int32).toNatClampNeg = 1 from rfl]
          unfold fil; rw [if_neg (by omega), ht1]
        rw [this]
        unfold oTake gTake
        rw [if_neg c_6, hcl]; rfl
      · refine sX6_take_87 (fun c => absurd c (nI_ge hj (by decide))) (fun _ => ?_)
        refine sX6_take_93 rp_o rfl kp_0 vl1 ?_
        have : fil (tk (R 0) (S' + 1) i (22 + 26 * S')) (22 + 26 * S') j (1 : Int32).toNatClampNeg = nI S' := by
          rw [show (1 : Int32).toNatClampNeg = 1 from rfl]
          unfold fil; rw [if_neg (by omega), ht1]
        rw [this]
        refine iX6_take_102 (c6_laysk hV (ixS S' j) (by omega)) rp_is (zpv ?_)
        refine sX6_take_105 ?_
        rw [fil_s, nI_1]
        exact ih
    · refine sX6_take_48 rp_o rfl kp_0 vl1 (fun c => absurd c (by rw [show (1 : Int32).toNatClampNeg = 1 from rfl, ht1, e2]; exact nI_ge hj (by omega))) (fun _ => ?_)
      have e8 : (nI j + 26 : Int32) = nI (j + 26) := nI_add j 26
      refine sX6_take_64 rp_o rfl kp_0 (vp_nI e8 (by omega) (by decide)) (vp_in_nI (by omega) (by decide)) ?_
      rw [kc_0, cl_nI e8 (by omega), nI_clamp (by omega), tk_s hji, nI_1]
      exact ih (by omega)
end RQ2
