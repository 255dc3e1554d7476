/-! ErrataPressModel: bargain, ashamed, worst, refusal, account, isWell, undo, save, restore -/
section RX
variable {g : ZG} {m : Nat} {R K : Nat → Nat → Int32} {M : ZM} {s w h k x y c b : Int32} {n S r : Nat} {q f : Nat → Int32}
theorem nI_div8 {i : Nat} (h : i < 2 ^ 31) : (nI i / 8 : Int32) = nI (i / 8) := by
  apply Int32.toInt_inj.mp
  rw [Int32.toInt_div, nI_toInt h, nI_toInt (by omega), show (8 : Int32).toInt = 8 from rfl]
  rw [Int.tdiv_eq_ediv_of_nonneg (by omega)]
  rw [Int.bmod_eq_of_le (by omega) (by omega)]
  omega
theorem nI_rem8 {i : Nat} (h : i < 2 ^ 31) : (nI i - nI i / 8 * 8 : Int32) = nI (i % 8) := by
  rw [nI_div8 h, show (8 : Int32) = nI 8 from rfl]
  apply Int32.toInt_inj.mp
  rw [Int32.toInt_sub, Int32.toInt_mul, nI_toInt h, nI_toInt (show i / 8 < 2 ^ 31 by omega), nI_toInt (show 8 < 2 ^ 31 by omega), nI_toInt (show i % 8 < 2 ^ 31 by omega)]
  rw [Int.bmod_eq_of_le (n := ((i / 8 : Nat) : Int) * (8 : Nat)) (by omega) (by omega)]
  rw [Int.bmod_eq_of_le (by omega) (by omega)]
  omega
def brW (q : Nat → Int32) (k : Nat) : Int32 := fLaughs q (nI (k / 8)) (nI (k % 8)) - fPrice q (fOf q (nI (k / 8)) 0)
def brS (q : Nat → Int32) (p : Int32 × Int32) (k : Nat) : Int32 × Int32 :=
  if fIsP q (nI (k / 8)) (nI (k % 8)) = 0 then p else if fCanL q (nI (k / 8)) (nI (k % 8)) = 0 then p
  else if p.1 < 0 then (nI k, brW q k) else if p.2 < brW q k then (nI k, brW q k) else p
def brg (q : Nat → Int32) : Nat → Int32 × Int32
  | 0 => (-1, 0)
  | k + 1 => brS q (brg q k) k
def oBarg (R : Nat → Nat → Int32) (S : Nat) (b : Int32) : (Nat → Nat → Int32) × Int32 :=
  if 0 ≤ (brg (R 0) (8 * S)).1 then (rFail R 0, if b = 0 then (brg (R 0) (8 * S)).1 / 8 else (brg (R 0) (8 * S)).1 - (brg (R 0) (8 * S)).1 / 8 * 8) else (rFail R 1, 0)
theorem c6_bargain (hV : zV g) (H : Inv (R 0) n S r) : tX6_bargain g [.ref m, .int b] (rput g m R M) nX6_bargain 0 0 (zQo g m M (oBarg R S b)) := by
  refine eX6_bargain hV ?_
  have hS : R 0 1 = nI S := H.2.2.1
  have hS8 := H.2.2.2.1
  refine sX6_bargain_0 ?_
  have e8 : (8 * R 0 (1 : Int32).toNatClampNeg : Int32) = nI (8 * S) := by
    rw [show (1 : Int32).toNatClampNeg = 1 from rfl, hS, show (8 : Int32) = nI 8 from rfl, pk_mul]
  have key := zdown (P := fun j => ∀ o, Z g kX6_bargain (zQo g m M (oBarg R S b)) nX6_bargain 0 0 (rput g m R M) 7 [some (.ref m), some (.int b), some (.int (brg (R 0) j).1), some (.int (brg (R 0) j).2), some (.int (nI j)), o] []) (8 * S) (fun o => ?_) (fun j hj ih o => ?_) 0 (Nat.zero_le _)
  · exact key _
  · refine sX6_bargain_7 rp_o rfl rp_0 vl1 (fun _ => ?_) (fun c => absurd (le_nI0 e8) c)
    refine sX6_bargain_114 (fun c => ?_) (fun c => ?_)
    · refine sX6_bargain_123 (iX6_bargain_124 (c6_fails hV) rp_is (zpr ?_))
      refine sX6_bargain_127 (fun _ => ?_) (fun c => absurd (by decide) c)
      refine sX6_bargain_134 (fun cb => sX6_bargain_145 (sX6_bargain_149 (zqo ?_))) (fun cb => sX6_bargain_138 (sX6_bargain_149 (zqo ?_)))
      · unfold oBarg; rw [if_pos c, if_pos cb]
      · unfold oBarg; rw [if_pos c, if_neg cb]
    · refine sX6_bargain_119 (iX6_bargain_124 (c6_fails hV) rp_is (zpr ?_))
      refine sX6_bargain_127 (fun c => absurd c (by decide)) (fun _ => ?_)
      refine sX6_bargain_130 (sX6_bargain_149 (zqo ?_))
      unfold oBarg; rw [if_neg c]
  · refine sX6_bargain_7 rp_o rfl rp_0 vl1 (fun c => absurd c (le_nI e8 (by omega) hj)) (fun _ => ?_)
    refine sX6_bargain_21 ?_
    rw [nI_rem8 (by omega), nI_div8 (by omega)]
    refine iX6_bargain_32 (c6_isPlace hV H.isSv) rp_is (zpr ?_)
    have ih2 : ∀ o, Z g kX6_bargain (zQo g m M (oBarg R S b)) nX6_bargain 0 0 (rput g m R M) 7 [some (.ref m), some (.int b), some (.int (brS (R 0) (brg (R 0) j) j).1), some (.int (brS (R 0) (brg (R 0) j) j).2), some (.int (nI (j + 1))), o] [] := ih
    clear ih
    generalize brg (R 0) j = p at *
    unfold brS at ih2
    refine sX6_bargain_35 (fun c => ?_) (fun c => ?_)
    · rw [if_pos c] at ih2
      refine sX6_bargain_108 ?_
      rw [nI_1]
      exact ih2 _
    · rw [if_neg c] at ih2
      obtain ⟨i, z, hi, hz, e1, e2⟩ := H.isP.mp (fIs01P.resolve_left c)
      have hz8 := (H.sl hi).2
      have e1' : j / 8 = i := (nI_eq_lit (by omega) (by omega)).mp e1
      have e2' : j % 8 = z := (nI_eq_lit (by omega) (by omega)).mp e2
      have hsO : SOk (R 0) (nI (j / 8)) := by rw [e1]; exact H.sok hi
      have hkO : KOk (nI (j % 8)) := ⟨j % 8, by omega, rfl⟩
      have hO : HOk (fOf (R 0) (nI (j / 8)) 0) := by rw [e1]; exact H.hown hi
      refine sX6_bargain_38 ?_
      rw [nI_rem8 (by omega), nI_div8 (by omega)]
      refine iX6_bargain_49 (c6_canLicense hV hsO hkO hO H.gse) rp_is (zpr ?_)
      refine sX6_bargain_52 (fun c => ?_) (fun c => ?_)
      · rw [if_neg c] at ih2
        refine sX6_bargain_58 ?_
        rw [nI_rem8 (by omega), nI_div8 (by omega)]
        refine iX6_bargain_69 (c6_laughs hV hsO hkO H.gr) rp_is (zpr ?_)
        refine sX6_bargain_72 ?_
        rw [nI_div8 (by omega)]
        refine iX6_bargain_80 (c6_of hV hsO.a0) rp_is (zpr ?_)
        refine iX6_bargain_83 (c6_price hV H.gse) rp_is (zpr ?_)
        refine sX6_bargain_86 (fun c => ?_) (fun c => ?_)
        · rw [if_pos c] at ih2
          refine sX6_bargain_102 (sX6_bargain_108 ?_)
          rw [nI_1]
          exact ih2 _
        · rw [if_neg c] at ih2
          refine sX6_bargain_93 (fun c => ?_) (fun c => ?_)
          · rw [if_pos (show p.2 < brW (R 0) j from c)] at ih2
            refine sX6_bargain_102 (sX6_bargain_108 ?_)
            rw [nI_1]
            exact ih2 _
          · rw [if_neg (show ¬ p.2 < brW (R 0) j from c)] at ih2
            refine sX6_bargain_99 (sX6_bargain_108 ?_)
            rw [nI_1]
            exact ih2 _
      · rw [if_pos c] at ih2
        refine sX6_bargain_55 (sX6_bargain_108 ?_)
        rw [nI_1]
        exact ih2 _
/-- the first j from here with f j = x -/
def fnd (f : Nat → Int32) (x : Int32) : Nat → Nat → Option Nat
  | 0, _ => none
  | t + 1, j => if f j = x then some j else fnd f x t (j + 1)
def oFnd (R : Nat → Nat → Int32) : Option Nat → (Nat → Nat → Int32) × Int32
  | some k => (ru R 7 8 0, nI k)
  | none => (ru R 7 8 1, 0)
def fAshN (q : Nat → Int32) (n k : Nat) : Int32 := zsum (fun o => if fMoreA q (nI o) (nI k) = 0 then 0 else 1) n
theorem c6_ashamed (hV : zV g) (H : Inv (R 0) n S r) : tX6_ashamed g [.ref m, .int x] (rput g m R M) nX6_ashamed 0 0 (zQo g m M (oFnd R (fnd (fAshN (R 0) n) x n 0))) := by
  refine eX6_ashamed hV ?_
  have hn : R 0 0 = nI n := H.1
  have hn4 := H.2.1
  refine sX6_ashamed_0 ?_
  have loop : ∀ t j, j + t = n → ∀ o o2, Z g kX6_ashamed (zQo g m M (oFnd R (fnd (fAshN (R 0) n) x t j))) nX6_ashamed 0 0 (rput g m R M) 2 [some (.ref m), some (.int x), some (.int (nI j)), o, o2] [] := by
    intro t
    induction t with
    | zero =>
      intro j hj o o2
      have : j = n := by omega
      subst this
      refine sX6_ashamed_2 rp_o rfl rp_0 vl0 (fun _ => ?_) (fun c => absurd (le_nI0 hn) c)
      refine sX6_ashamed_73 rp_o (Nat.le_of_ble_eq_true rfl) ?_
      rw [rs_8, rf_r]
      exact zqo rfl
    | succ t ih =>
      intro j hj o o2
      refine sX6_ashamed_2 rp_o rfl rp_0 vl0 (fun c => absurd c (le_nI hn (by omega) (by omega))) (fun _ => sX6_ashamed_12 ?_)
      have key := zdown (P := fun i => Z g kX6_ashamed (zQo g m M (oFnd R (fnd (fAshN (R 0) n) x (t + 1) j))) nX6_ashamed 0 0 (rput g m R M) 17 [some (.ref m), some (.int x), some (.int (nI j)), some (.int (fAshN (R 0) i j)), some (.int (nI i))] []) n ?_ (fun i hi ihi => ?_) 0 (Nat.zero_le _)
      · exact key
      · refine sX6_ashamed_17 rp_o rfl rp_0 vl0 (fun _ => ?_) (fun c => absurd (le_nI0 hn) c)
        unfold fnd
        refine sX6_ashamed_52 (fun c => ?_) (fun c => ?_)
        · rw [if_pos c]
          refine sX6_ashamed_60 rp_o (Nat.le_of_ble_eq_true rfl) ?_
          rw [rs_8, rf_r]
          exact zqo rfl
        · rw [if_neg c]
          refine sX6_ashamed_57 (sX6_ashamed_67 ?_)
          rw [nI_1]
          exact ih (j + 1) (by omega) _ _
      · refine sX6_ashamed_17 rp_o rfl rp_0 vl0 (fun c => absurd c (le_nI hn (by omega) hi)) (fun _ => ?_)
        refine sX6_ashamed_28 (iX6_ashamed_33 (c6_isMoreAshamed hV (H.hok hi) (H.hok (by omega))) rp_is (zpr ?_))
        refine sX6_ashamed_36 (fun c => sX6_ashamed_43 (sX6_ashamed_44 ?_)) (fun c => sX6_ashamed_39 (sX6_ashamed_44 ?_))
        · rw [nI_1]
          have e : fAshN (R 0) i j + 0 = fAshN (R 0) (i + 1) j := zs_v (if_pos c)
          rw [e]; exact ihi
        · rw [nI_1]
          have e : fAshN (R 0) i j + 1 = fAshN (R 0) (i + 1) j := zs_v (if_neg c)
          rw [e]; exact ihi
  exact loop n 0 (by omega) _ _
def fWorN (q : Nat → Int32) (n k : Nat) : Int32 := zsum (fun o => if fWorse q (nI o) (nI k) = 0 then 0 else 1) n
theorem c6_worst (hV : zV g) (H : Inv (R 0) n S r) : tX6_worst g [.ref m, .int x] (rput g m R M) nX6_worst 0 0 (zQo g m M (oFnd R (fnd (fWorN (R 0) S) x S 0))) := by
  refine eX6_worst hV ?_
  have hn : R 0 1 = nI S := H.2.2.1
  have hn4 := H.2.2.2.1
  refine sX6_worst_0 ?_
  have loop : ∀ t j, j + t = S → ∀ o o2, Z g kX6_worst (zQo g m M (oFnd R (fnd (fWorN (R 0) S) x t j))) nX6_worst 0 0 (rput g m R M) 2 [some (.ref m), some (.int x), some (.int (nI j)), o, o2] [] := by
    intro t
    induction t with
    | zero =>
      intro j hj o o2
      have : j = S := by omega
      subst this
      refine sX6_worst_2 rp_o rfl rp_0 vl1 (fun _ => ?_) (fun c => absurd (le_nI0 hn) c)
      refine sX6_worst_73 rp_o (Nat.le_of_ble_eq_true rfl) ?_
      rw [rs_8, rf_r]
      exact zqo rfl
    | succ t ih =>
      intro j hj o o2
      refine sX6_worst_2 rp_o rfl rp_0 vl1 (fun c => absurd c (le_nI hn (by omega) (by omega))) (fun _ => sX6_worst_12 ?_)
      have key := zdown (P := fun i => Z g kX6_worst (zQo g m M (oFnd R (fnd (fWorN (R 0) S) x (t + 1) j))) nX6_worst 0 0 (rput g m R M) 17 [some (.ref m), some (.int x), some (.int (nI j)), some (.int (fWorN (R 0) i j)), some (.int (nI i))] []) S ?_ (fun i hi ihi => ?_) 0 (Nat.zero_le _)
      · exact key
      · refine sX6_worst_17 rp_o rfl rp_0 vl1 (fun _ => ?_) (fun c => absurd (le_nI0 hn) c)
        unfold fnd
        refine sX6_worst_52 (fun c => ?_) (fun c => ?_)
        · rw [if_pos c]
          refine sX6_worst_60 rp_o (Nat.le_of_ble_eq_true rfl) ?_
          rw [rs_8, rf_r]
          exact zqo rfl
        · rw [if_neg c]
          refine sX6_worst_57 (sX6_worst_67 ?_)
          rw [nI_1]
          exact ih (j + 1) (by omega) _ _
      · refine sX6_worst_17 rp_o rfl rp_0 vl1 (fun c => absurd c (le_nI hn (by omega) hi)) (fun _ => ?_)
        refine sX6_worst_28 (iX6_worst_33 (c6_isWorse hV (H.sok hi) (H.sok (by omega))) rp_is (zpr ?_))
        refine sX6_worst_36 (fun c => sX6_worst_43 (sX6_worst_44 ?_)) (fun c => sX6_worst_39 (sX6_worst_44 ?_))
        · rw [nI_1]
          have e : fWorN (R 0) i j + 0 = fWorN (R 0) (i + 1) j := zs_v (if_pos c)
          rw [e]; exact ihi
        · rw [nI_1]
          have e : fWorN (R 0) i j + 1 = fWorN (R 0) (i + 1) j := zs_v (if_neg c)
          rw [e]; exact ihi
  exact loop S 0 (by omega) _ _
end RX
