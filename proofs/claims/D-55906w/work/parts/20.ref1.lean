/-! ErrataPressModel: its cells as one table R of rows: 0 g, 1 kept, 2 saved, 3 before, 4 input, 5 signs, 6 told, 7 the fields by their places -/
def ru (R : Nat → Nat → Int32) (j i : Nat) (x : Int32) : Nat → Nat → Int32 := fun a b => if a = j ∧ b = i then x else R a b
def rfs (m : Nat) (R : Nat → Nat → Int32) : List Value := [.ref (m + 1), .ref (m + 2), .ref (m + 3), .ref (m + 4), .int (R 7 4), .int (R 7 5), .int (R 7 6), .int (R 7 7), .int (R 7 8), .int (R 7 9), .int (R 7 10), .int (R 7 11), .int (R 7 12), .ref (m + 5), .int (R 7 14), .int (R 7 15), .ref (m + 6), .int (R 7 17), .int (R 7 18), .ref (m + 7), .int (R 7 20)]
def rput (g : ZG) (m : Nat) (R : Nat → Nat → Int32) (M : ZM) : ZM := (fun b =>
  if b = m then some (.inr (5, rfs m R)) else if b = m + 1 then some (.inl (zA g 0, 240, .inl (R 0))) else if b = m + 2 then some (.inl (zA g 0, 1920, .inl (R 1)))
  else if b = m + 3 then some (.inl (zA g 0, 240, .inl (R 2))) else if b = m + 4 then some (.inl (zA g 0, 240, .inl (R 3))) else if b = m + 5 then some (.inl (zA g 0, 60, .inl (R 4)))
  else if b = m + 6 then some (.inl (zA g 3, 40, .inl (R 5))) else if b = m + 7 then some (.inl (zA g 0, 124, .inl (R 6))) else M.1 b, M.2)
section RP
variable {g : ZG} {m : Nat} {R : Nat → Nat → Int32} {M : ZM}
theorem rp_o : (rput g m R M).1 m = some (.inr (5, rfs m R)) := if_pos rfl
theorem rp_0 : (rput g m R M).1 (m + 1) = some (.inl (zA g 0, 240, .inl (R 0))) := by simp [rput]
theorem rp_1 : (rput g m R M).1 (m + 2) = some (.inl (zA g 0, 1920, .inl (R 1))) := by simp [rput]
theorem rp_2 : (rput g m R M).1 (m + 3) = some (.inl (zA g 0, 240, .inl (R 2))) := by simp [rput]
theorem rp_3 : (rput g m R M).1 (m + 4) = some (.inl (zA g 0, 240, .inl (R 3))) := by simp [rput]
theorem rp_4 : (rput g m R M).1 (m + 5) = some (.inl (zA g 0, 60, .inl (R 4))) := by simp [rput]
theorem rp_5 : (rput g m R M).1 (m + 6) = some (.inl (zA g 3, 40, .inl (R 5))) := by simp [rput]
theorem rp_6 : (rput g m R M).1 (m + 7) = some (.inl (zA g 0, 124, .inl (R 6))) := by simp [rput]
theorem rp_is : zis (rput g m R M) m 5 := ⟨_, rp_o⟩
theorem ru_row {j i : Nat} {x : Int32} : ru R j i x j = upd (R j) i x := by
  funext b; unfold ru upd; by_cases h : b = i <;> simp [h]
theorem ru_ne {j k i : Nat} {x : Int32} (h : k ≠ j) : ru R j i x k = R k := by
  funext b; unfold ru; simp [h]
theorem rz_ext {A B : ZM} (h1 : ∀ b, A.1 b = B.1 b) (h2 : A.2 = B.2) : A = B := by
  obtain ⟨a1, a2⟩ := A; obtain ⟨b1, b2⟩ := B
  have : a1 = b1 := funext h1
  subst this; cases h2; rfl
theorem ra_0 {i : Nat} {x : Int32} : zup (rput g m R M) (m + 1) (.inl (zA g 0, 240, .inl (upd (R 0) i x))) = rput g m (ru R 0 i x) M := by
  refine rz_ext (fun b => ?_) rfl
  by_cases h : b = m + 1
  · subst h; rw [zup_self, rp_0, ru_row]
  · rw [zup_ne _ _ h]; unfold rput; simp [h, rfs, ru_ne, ru]
theorem ra_1 {i : Nat} {x : Int32} : zup (rput g m R M) (m + 2) (.inl (zA g 0, 1920, .inl (upd (R 1) i x))) = rput g m (ru R 1 i x) M := by
  refine rz_ext (fun b => ?_) rfl
  by_cases h : b = m + 2
  · subst h; rw [zup_self, rp_1, ru_row]
  · rw [zup_ne _ _ h]; unfold rput; simp [h, rfs, ru_ne, ru]
theorem ra_2 {i : Nat} {x : Int32} : zup (rput g m R M) (m + 3) (.inl (zA g 0, 240, .inl (upd (R 2) i x))) = rput g m (ru R 2 i x) M := by
  refine rz_ext (fun b => ?_) rfl
  by_cases h : b = m + 3
  · subst h; rw [zup_self, rp_2, ru_row]
  · rw [zup_ne _ _ h]; unfold rput; simp [h, rfs, ru_ne, ru]
theorem ra_3 {i : Nat} {x : Int32} : zup (rput g m R M) (m + 4) (.inl (zA g 0, 240, .inl (upd (R 3) i x))) = rput g m (ru R 3 i x) M := by
  refine rz_ext (fun b => ?_) rfl
  by_cases h : b = m + 4
  · subst h; rw [zup_self, rp_3, ru_row]
  · rw [zup_ne _ _ h]; unfold rput; simp [h, rfs, ru_ne, ru]
theorem ra_4 {i : Nat} {x : Int32} : zup (rput g m R M) (m + 5) (.inl (zA g 0, 60, .inl (upd (R 4) i x))) = rput g m (ru R 4 i x) M := by
  refine rz_ext (fun b => ?_) rfl
  by_cases h : b = m + 5
  · subst h; rw [zup_self, rp_4, ru_row]
  · rw [zup_ne _ _ h]; unfold rput; simp [h, rfs, ru_ne, ru]
theorem ra_5 {i : Nat} {x : Int32} : zup (rput g m R M) (m + 6) (.inl (zA g 3, 40, .inl (upd (R 5) i x))) = rput g m (ru R 5 i x) M := by
  refine rz_ext (fun b => ?_) rfl
  by_cases h : b = m + 6
  · subst h; rw [zup_self, rp_5, ru_row]
  · rw [zup_ne _ _ h]; unfold rput; simp [h, rfs, ru_ne, ru]
theorem ra_6 {i : Nat} {x : Int32} : zup (rput g m R M) (m + 7) (.inl (zA g 0, 124, .inl (upd (R 6) i x))) = rput g m (ru R 6 i x) M := by
  refine rz_ext (fun b => ?_) rfl
  by_cases h : b = m + 7
  · subst h; rw [zup_self, rp_6, ru_row]
  · rw [zup_ne _ _ h]; unfold rput; simp [h, rfs, ru_ne, ru]
/-- a field written -/
theorem rf_ok {fs : List Value} {R2 : Nat → Nat → Int32} (h : fs = rfs m R2) (h2 : ∀ j, j < 7 → R2 j = R j) : zup (rput g m R M) m (.inr (5, fs)) = rput g m R2 M := by
  subst h
  refine rz_ext (fun b => ?_) rfl
  by_cases h : b = m
  · subst h; rw [zup_self, rp_o]
  · rw [zup_ne _ _ h]; unfold rput; simp [h, h2 0 (by decide), h2 1 (by decide), h2 2 (by decide), h2 3 (by decide), h2 4 (by decide), h2 5 (by decide), h2 6 (by decide)]
theorem rf_k {k : Nat} {x : Int32} (hk : k = 4 ∨ k = 5 ∨ k = 6 ∨ k = 7 ∨ k = 8 ∨ k = 9 ∨ k = 10 ∨ k = 11 ∨ k = 12 ∨ k = 14 ∨ k = 15 ∨ k = 17 ∨ k = 18 ∨ k = 20) : zup (rput g m R M) m (.inr (5, (rfs m R).set k (.int x))) = rput g m (ru R 7 k x) M := by
  refine rf_ok ?_ (fun j hj => ru_ne (by omega))
  rcases hk with rfl | rfl | rfl | rfl | rfl | rfl | rfl | rfl | rfl | rfl | rfl | rfl | rfl | rfl <;> simp [rfs, ru]
end RP
/-! numbers -/
theorem ixH (h w : Nat) : (10 + 3 * nI h + nI w : Int32) = nI (10 + 3 * h + w) := by
  rw [show (10 : Int32) = nI 10 from rfl, show (3 : Int32) = nI 3 from rfl, pk_mul, nI_add, nI_add]
theorem ixS (s w : Nat) : (22 + 26 * nI s + nI w : Int32) = nI (22 + 26 * s + w) := by
  rw [show (22 : Int32) = nI 22 from rfl, show (26 : Int32) = nI 26 from rfl, pk_mul, nI_add, nI_add]
theorem vp_nI {x : Int32} {i n : Nat} (h : x = nI i) (hi : i < n) (hn : n < 2 ^ 31) : vp_in x n := by rw [h]; exact vp_in_nI hi hn
theorem cl_nI {x : Int32} {i : Nat} (h : x = nI i) (hi : i < 2 ^ 31) : x.toNatClampNeg = i := by rw [h]; exact nI_clamp hi
def bI (p : Prop) [Decidable p] : Int32 := if p then 1 else 0
theorem bI_01 (p : Prop) [Decidable p] : bI p = 0 ∨ bI p = 1 := by unfold bI; split <;> simp
theorem bI_t {p : Prop} [Decidable p] (h : p) : bI p = 1 := if_pos h
theorem bI_f {p : Prop} [Decidable p] (h : ¬ p) : bI p = 0 := if_neg h
theorem bI_0 {p : Prop} [Decidable p] : bI p = 0 ↔ ¬ p := by unfold bI; split <;> simp_all
/-- sums and counts -/
def zsum (f : Nat → Int32) : Nat → Int32
  | 0 => 0
  | n + 1 => zsum f n + f n
/-- a loop over numbers, downwards: what holds at the end holds at every place -/
theorem zdown {P : Nat → Prop} (N : Nat) (he : P N) (hs : ∀ j, j < N → P (j + 1) → P j) : ∀ j, j ≤ N → P j := by
  intro j hj
  obtain ⟨k, rfl⟩ : ∃ k, N = j + k := ⟨N - j, by omega⟩
  induction k generalizing j with
  | zero => exact he
  | succ k ih =>
    exact hs j (by omega) (ih (j + 1) (by rw [show j + 1 + k = j + (k + 1) by omega]; exact he) (fun i hi h => hs i (by omega) h) (by omega))
