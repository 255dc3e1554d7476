/-! what holds of g at every time; facts of numbers in range -/
section INV
variable {q : Nat → Int32} {n S r : Nat} {s k h : Int32}
def ShI (q : Nat → Int32) (n s : Nat) : Prop := ∃ o z : Nat, o < n ∧ 3 ≤ z ∧ z ≤ 8 ∧ q (22 + 26 * s) = nI o ∧ q (23 + 26 * s) = nI z ∧
  (∀ k, k < z → ∃ a b c : Nat, 1 ≤ a ∧ a ≤ 6 ∧ 1 ≤ b ∧ b ≤ 6 ∧ c ≤ 3 ∧ q (24 + 26 * s + k) = nI a ∧ q (32 + 26 * s + k) = nI b ∧ q (40 + 26 * s + k) = nI c ∧ (c = 0 ↔ a = b)) ∧
  (∀ k, z ≤ k → k < 8 → q (24 + 26 * s + k) = 0 ∧ q (32 + 26 * s + k) = 0 ∧ q (40 + 26 * s + k) = 0)
def HoI (q : Nat → Int32) (h : Nat) : Prop := ∃ c a : Nat, c ≤ 99 ∧ a ≤ 99 ∧ q (10 + 3 * h) = nI c ∧ q (11 + 3 * h) = nI a
def ReI (q : Nat → Int32) (j : Nat) : Prop := ∃ kd t : Nat, kd ≤ 1 ∧ 1 ≤ t ∧ t ≤ 6 ∧ q (230 + 2 * j) = nI kd ∧ q (231 + 2 * j) = nI t
def Inv (q : Nat → Int32) (n S r : Nat) : Prop := q 0 = nI n ∧ n ≤ 4 ∧ q 1 = nI S ∧ S ≤ 8 ∧ q 2 = nI r ∧ r ≤ 5 ∧ (∀ h, h < n → HoI q h) ∧ (∀ s, s < S → ShI q n s) ∧ ∀ j, j < r → ReI q j
theorem fOf_n (s w : Nat) (h : 22 + 26 * s + w < 2 ^ 31) : fOf q (nI s) (nI w) = q (22 + 26 * s + w) := by
  unfold fOf; rw [cl_nI (ixS s w) h]
theorem fBy_n (h w : Nat) (hh : 10 + 3 * h + w < 2 ^ 31) : fBy q (nI h) (nI w) = q (10 + 3 * h + w) := by
  unfold fBy; rw [cl_nI (ixH h w) hh]
theorem fOf_18 (s k : Nat) (h : 40 + 26 * s + k < 2 ^ 31) : fOf q (nI s) (18 + nI k) = q (40 + 26 * s + k) := by
  rw [show (18 + nI k : Int32) = nI (18 + k) from nI_add 18 k, fOf_n _ _ (by omega)]; congr 1; omega
theorem fOf_10 (s k : Nat) (h : 40 + 26 * s + k < 2 ^ 31) : fOf q (nI s) (10 + nI k) = q (32 + 26 * s + k) := by
  rw [show (10 + nI k : Int32) = nI (10 + k) from nI_add 10 k, fOf_n _ _ (by omega)]; congr 1; omega
theorem fOf_2 (s k : Nat) (h : 40 + 26 * s + k < 2 ^ 31) : fOf q (nI s) (2 + nI k) = q (24 + 26 * s + k) := by
  rw [show (2 + nI k : Int32) = nI (2 + k) from nI_add 2 k, fOf_n _ _ (by omega)]; congr 1; omega
theorem fOf_0 (s : Nat) (h : s < 8) : fOf q (nI s) 0 = q (22 + 26 * s) := by
  rw [show (0 : Int32) = nI 0 from rfl, fOf_n _ _ (by omega)]; rfl
theorem fOf_1 (s : Nat) (h : s < 8) : fOf q (nI s) 1 = q (23 + 26 * s) := by
  rw [show (1 : Int32) = nI 1 from rfl, fOf_n _ _ (by omega)]; congr 1; omega
theorem fBy_0 (h : Nat) (hh : h < 4) : fBy q (nI h) 0 = q (10 + 3 * h) := by
  rw [show (0 : Int32) = nI 0 from rfl, fBy_n _ _ (by omega)]; rfl
theorem fBy_1 (h : Nat) (hh : h < 4) : fBy q (nI h) 1 = q (11 + 3 * h) := by
  rw [show (1 : Int32) = nI 1 from rfl, fBy_n _ _ (by omega)]; congr 1; omega
theorem fBy_2 (h : Nat) (hh : h < 4) : fBy q (nI h) 2 = q (12 + 3 * h) := by
  rw [show (2 : Int32) = nI 2 from rfl, fBy_n _ _ (by omega)]; congr 1; omega
theorem Inv.gs (H : Inv q n S r) : GS q S := by
  obtain ⟨-, hn, h1, h2, -, -, -, hs, -⟩ := H
  refine ⟨h1, h2, fun i hi => ?_⟩
  obtain ⟨o, z, ho, hz3, hz8, e1, e2, -⟩ := hs i hi
  exact ⟨i, z, by omega, rfl, hz8, by rw [fOf_1 i (by omega)]; exact e2⟩
theorem Inv.gse (H : Inv q n S r) : ∃ S, GS q S := ⟨S, H.gs⟩
theorem Inv.gh (H : Inv q n S r) : GH q n := ⟨H.1, H.2.1⟩
theorem Inv.ghe (H : Inv q n S r) : ∃ n, GH q n := ⟨n, H.gh⟩
theorem Inv.gr (H : Inv q n S r) : GR q := ⟨r, H.2.2.2.2.2.1, H.2.2.2.2.1⟩
theorem Inv.sok (H : Inv q n S r) {i : Nat} (hi : i < S) : SOk q (nI i) := H.gs.2.2 i hi
theorem Inv.hok (H : Inv q n S r) {i : Nat} (hi : i < n) : HOk (nI i) := ⟨i, by have := H.2.1; omega, rfl⟩
theorem Inv.own (H : Inv q n S r) {i : Nat} (hi : i < S) : ∃ o, o < n ∧ q (22 + 26 * i) = nI o ∧ fOf q (nI i) 0 = nI o := by
  have hS := H.2.2.2.1
  obtain ⟨o, z, ho, -, -, e1, -⟩ := H.2.2.2.2.2.2.2.1 i hi
  exact ⟨o, ho, e1, by rw [fOf_0 i (by omega)]; exact e1⟩
theorem Inv.hown (H : Inv q n S r) {i : Nat} (hi : i < S) : HOk (fOf q (nI i) 0) := by
  obtain ⟨o, ho, -, e⟩ := H.own hi
  rw [e]; exact H.hok ho
theorem Inv.len (H : Inv q n S r) {i : Nat} (hi : i < S) : ∃ z, 3 ≤ z ∧ z ≤ 8 ∧ q (23 + 26 * i) = nI z ∧ fOf q (nI i) 1 = nI z := by
  have hS := H.2.2.2.1
  obtain ⟨o, z, ho, h1, h2, -, e2, -⟩ := H.2.2.2.2.2.2.2.1 i hi
  exact ⟨z, h1, h2, e2, by rw [fOf_1 i (by omega)]; exact e2⟩
/-- a number in range -/
theorem rng {x : Int32} {N : Nat} (hN : N < 2 ^ 31) (h0 : 0 ≤ x) (h1 : x ≤ nI N - 1) : ∃ j, j < N ∧ x = nI j := by
  have hn : ¬ x < 0 := Int32.not_lt.mpr h0
  obtain ⟨j, hj, rfl⟩ := nI_of hn
  refine ⟨j, ?_, rfl⟩
  rcases Nat.lt_or_ge j N with h | h
  · exact h
  · exfalso
    have h2 : (nI j).toInt ≤ (nI N - 1).toInt := Int32.le_iff_toInt_le.mp h1
    rcases Nat.eq_zero_or_pos N with rfl | hp
    · rw [nI_toInt hj] at h2
      have : (nI 0 - 1 : Int32).toInt = -1 := by decide +kernel
      omega
    · obtain ⟨N', rfl⟩ : ∃ N', N = N' + 1 := ⟨N - 1, by omega⟩
      rw [nI_pred, nI_toInt hj, nI_toInt (by omega)] at h2
      omega
theorem rng_in {N j : Nat} (hN : N < 2 ^ 31) (h : j < N) : 0 ≤ nI j ∧ nI j ≤ nI N - 1 := by
  obtain ⟨N', rfl⟩ : ∃ N', N = N' + 1 := ⟨N - 1, by omega⟩
  rw [nI_pred]
  exact ⟨nI_pos' (by omega), nI_le (by omega) (by omega)⟩
theorem Inv.isS (H : Inv q n S r) : fIsS q s = 1 ↔ ∃ i, i < S ∧ s = nI i := by
  have hS := H.2.2.2.1
  unfold fIsS
  rw [H.2.2.1]
  constructor
  · intro h
    have hp : 0 ≤ s ∧ s ≤ nI S - 1 := by unfold bI at h; split at h; assumption; cases h
    exact rng (by omega) hp.1 hp.2
  · rintro ⟨i, hi, rfl⟩
    exact bI_t (rng_in (by omega) hi)
theorem Inv.isH (H : Inv q n S r) : fIsH q h = 1 ↔ ∃ i, i < n ∧ h = nI i := by
  have hS := H.2.1
  unfold fIsH
  rw [H.1]
  constructor
  · intro hh
    have hp : 0 ≤ h ∧ h ≤ nI n - 1 := by unfold bI at hh; split at hh; assumption; cases hh
    exact rng (by omega) hp.1 hp.2
  · rintro ⟨i, hi, rfl⟩
    exact bI_t (rng_in (by omega) hi)
/-- the length of sheet i -/
def gz (q : Nat → Int32) (i : Nat) : Nat := (q (23 + 26 * i)).toNatClampNeg
theorem Inv.gzz (H : Inv q n S r) {i : Nat} (hi : i < S) : q (23 + 26 * i) = nI (gz q i) ∧ 3 ≤ gz q i ∧ gz q i ≤ 8 ∧ fOf q (nI i) 1 = nI (gz q i) := by
  obtain ⟨z, h1, h2, h3, h4⟩ := H.len hi
  have : gz q i = z := cl_nI h3 (by omega)
  rw [this]
  exact ⟨h3, h1, h2, h4⟩
theorem Inv.isP (H : Inv q n S r) : fIsP q s k = 1 ↔ ∃ i j, i < S ∧ j < gz q i ∧ s = nI i ∧ k = nI j := by
  unfold fIsP
  constructor
  · intro h
    have hp : fIsS q s = 1 ∧ 0 ≤ k ∧ k ≤ fOf q s 1 - 1 := by unfold bI at h; split at h; assumption; cases h
    obtain ⟨i, hi, rfl⟩ := H.isS.mp hp.1
    obtain ⟨e1, -, h8, e2⟩ := H.gzz hi
    rw [e2] at hp
    obtain ⟨j, hj, rfl⟩ := rng (by omega) hp.2.1 hp.2.2
    exact ⟨i, j, hi, hj, rfl, rfl⟩
  · rintro ⟨i, j, hi, hj, rfl, rfl⟩
    obtain ⟨e1, -, h8, e2⟩ := H.gzz hi
    refine bI_t ⟨H.isS.mpr ⟨i, hi, rfl⟩, ?_⟩
    rw [e2]
    exact rng_in (by omega) hj
theorem Inv.isSv (H : Inv q n S r) : fIsS q s = 1 → vp_in (22 + 26 * s + 1) 240 := by
  intro h
  obtain ⟨i, hi, rfl⟩ := H.isS.mp h
  exact (H.sok hi).a1
theorem fIs01S : fIsS q s = 0 ∨ fIsS q s = 1 := bI_01 _
theorem fIs01H : fIsH q h = 0 ∨ fIsH q h = 1 := bI_01 _
theorem fIs01P : fIsP q s k = 0 ∨ fIsP q s k = 1 := bI_01 _
end INV
