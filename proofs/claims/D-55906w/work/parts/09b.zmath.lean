section ZMA
variable {g : ZG} {K : ZK} {Q : ZQ} {d cN sN pc idx : Nat} {M : ZM} {ls : List (Option Value)} {rest : List Value} {x y : Int32}
theorem zs_mmin (hd : decode (zcc K) pc = .ok (.invokestatic idx, 3)) (h1 : Cond.methodLink (zown K) idx Lib.Math.min.name ∈ lw_all) (h2 : Cond.static Lib.Math.min.name ∈ lw_all) (h3 : Cond.initialized "java/lang/Math" ∈ lw_all) (h4 : Cond.code Lib.Math.min.name Lib.Math.min.code 2 (some .int) ∈ lw_all) (hcat : (rest.map fun v => v.category).sum ≤ 8) (hd1 : 1 ≤ d)
    (kk : Z g K Q d cN sN M (pc + 3) ls (.int (if y < x then y else x) :: rest)) : Z g K Q d cN sN M pc ls (.int y :: .int x :: rest) := by
  refine Z_mk ?_
  intro p l e R s m args below meth c H locs cells slots la hC hI hsz hl hR
  have ht := hC.2.2.2.2.2.2.1
  exact va_mmin hC.1 hC.2.1 (by rw [hC.2.2.2.2.1]; exact hl.1.1.symm) hC.2.2.2.2.2.1 (ht _ h1) (ht _ h2) (ht _ h3) (ht _ h4) (by omega) (by omega) (by omega) (by omega) hd ((Z_un kk) p l e R s m args below meth c H locs cells slots la hC hI hsz hl hR)
theorem zs_mmax (hd : decode (zcc K) pc = .ok (.invokestatic idx, 3)) (h1 : Cond.methodLink (zown K) idx Lib.Math.max.name ∈ lw_all) (h2 : Cond.static Lib.Math.max.name ∈ lw_all) (h3 : Cond.initialized "java/lang/Math" ∈ lw_all) (h4 : Cond.code Lib.Math.max.name Lib.Math.max.code 2 (some .int) ∈ lw_all) (hcat : (rest.map fun v => v.category).sum ≤ 8) (hd1 : 1 ≤ d)
    (kk : Z g K Q d cN sN M (pc + 3) ls (.int (if x < y then y else x) :: rest)) : Z g K Q d cN sN M pc ls (.int y :: .int x :: rest) := by
  refine Z_mk ?_
  intro p l e R s m args below meth c H locs cells slots la hC hI hsz hl hR
  have ht := hC.2.2.2.2.2.2.1
  exact va_mmax hC.1 hC.2.1 (by rw [hC.2.2.2.2.1]; exact hl.1.1.symm) hC.2.2.2.2.2.1 (ht _ h1) (ht _ h2) (ht _ h3) (ht _ h4) (by omega) (by omega) (by omega) (by omega) hd ((Z_un kk) p l e R s m args below meth c H locs cells slots la hC hI hsz hl hR)
theorem zs_mabs (hd : decode (zcc K) pc = .ok (.invokestatic idx, 3)) (h1 : Cond.methodLink (zown K) idx Lib.Math.abs.name ∈ lw_all) (h2 : Cond.static Lib.Math.abs.name ∈ lw_all) (h3 : Cond.initialized "java/lang/Math" ∈ lw_all) (h4 : Cond.code Lib.Math.abs.name Lib.Math.abs.code 1 (some .int) ∈ lw_all) (hcat : (rest.map fun v => v.category).sum ≤ 8) (hd1 : 1 ≤ d)
    (kk : Z g K Q d cN sN M (pc + 3) ls (.int (if 0 ≤ x then x else 0 - x) :: rest)) : Z g K Q d cN sN M pc ls (.int x :: rest) := by
  refine Z_mk ?_
  intro p l e R s m args below meth c H locs cells slots la hC hI hsz hl hR
  have ht := hC.2.2.2.2.2.2.1
  exact va_mabs hC.1 hC.2.1 (by rw [hC.2.2.2.2.1]; exact hl.1.1.symm) hC.2.2.2.2.2.1 (ht _ h1) (ht _ h2) (ht _ h3) (ht _ h4) (by omega) (by omega) (by omega) (by omega) hd ((Z_un kk) p l e R s m args below meth c H locs cells slots la hC hI hsz hl hR)
/-- System.arraycopy of ints (or bytes, chars): between two arrays of one kind -/
theorem zs_copyi {t n0 n1 a0 a : Nat} {cA : ClassId} {ty : FieldType} {f h : Nat → Int32} {sp dp n : Int32} (hd : decode (zcc K) pc = .ok (.invokestatic idx, 3)) (h1 : Cond.methodLink (zown K) idx arraycopyName ∈ lw_all) (h2 : Cond.native arraycopyName ∈ lw_all) (h3 : Cond.static arraycopyName ∈ lw_all) (h4 : Cond.initialized "java/lang/System" ∈ lw_all)
    (ht : (ztys g)[t]? = some (cA, ty)) (hprim : refKind ty = false) (hm0 : M.1 a0 = some (.inl (cA, n0, .inl f))) (hm1 : M.1 a = some (.inl (cA, n1, .inl h))) (hs1 : ¬ sp < 0) (hs2 : ¬ dp < 0) (hs3 : ¬ n < 0) (hs4 : sp.toNatClampNeg + n.toNatClampNeg ≤ n0) (hs5 : dp.toNatClampNeg + n.toNatClampNeg ≤ n1) (hfit : ∀ i, i < n.toNatClampNeg → fits ty (.int (f (sp.toNatClampNeg + i))) = true) (hcat : (rest.map fun v => v.category).sum ≤ 8) (hd1 : 1 ≤ d)
    (kk : Z g K Q d cN sN (zup M a (.inl (cA, n1, .inl (va_cpy f h sp.toNatClampNeg dp.toNatClampNeg n.toNatClampNeg)))) (pc + 3) ls rest) : Z g K Q d cN sN M pc ls (.int n :: .int dp :: .ref a :: .int sp :: .ref a0 :: rest) := by
  refine Z_mk ?_
  intro p l e R s m args below meth c H locs cells slots la hC hI hsz hl hR
  have htb := hC.2.2.2.2.2.2.1
  have hc0 : H[a0]? = some (vp_cell cA (n0, .inl f)) := hI.get hm0
  have hc1 : H[a]? = some (vp_cell cA (n1, .inl h)) := hI.get hm1
  obtain ⟨-, k0, hk0, cm0, hkk0⟩ := (hC.kk.2 t _ ht).1 n0 (fun j => .int (f j))
  have nn : ∀ z : Int32, ¬ z < 0 → z.toInt = (z.toNatClampNeg : Int) := by
    intro z hz
    have h5 : (0 : Int) ≤ z.toInt := by simpa using Int32.le_iff_toInt_le.mp (Int32.not_lt.mp hz)
    show z.toInt = ((z.toInt.toNat : Nat) : Int)
    omega
  intro T hT X
  obtain ⟨vm', X', step⟩ := X.arraycopy hC.1 hC.2.2.2.2.2.1 (htb _ h1) (htb _ h2) (htb _ h3) (htb _ h4) (src := a0) (dst := a) (cs := vp_cell cA (n0, .inl f)) (cd := vp_cell cA (n1, .inl h)) (srcPos := sp) (destPos := dp) (n := n) (by rw [hT]; exact hc0) (by rw [hT]; exact hc1)
    (fun _ h => by cases h) (fun _ h => by cases h) (fun h => by cases h) (fun h => by cases h) hk0 hk0 hkk0 hkk0 (by simp [hprim]) hs1 hs2 hs3
    (by rw [nn sp hs1, nn n hs3]; show ¬ _ > ((arrV cA n0 (fun j => .int (f j))).slots.size : Int); rw [arrV_size]; omega)
    (by rw [nn dp hs2, nn n hs3]; show ¬ _ > ((arrV cA n1 (fun j => .int (h j))).slots.size : Int); rw [arrV_size]; omega)
    (fun vm₁ _ i hi => by
      have e : (vp_cell cA (n0, .inl f)).slots.getD (sp.toNatClampNeg + i) .null = .int (f (sp.toNatClampNeg + i)) := by
        show (arrV cA n0 (fun j => .int (f j))).slots.getD _ _ = _
        rw [Array.getD_eq_getD_getElem?, arrV_read _ _ (by omega)]
        rfl
      rw [e]
      exact ⟨hfit i hi, trivial⟩)
    (g := F0 m pc la (.int n :: .int dp :: .ref a :: .int sp :: .ref a0 :: rest)) rfl (by rw [hC.2.2.2.2.1]; exact hl.1.1) (rest := rest) rfl (by rw [hC.2.1]; exact hd) (by omega) (by
      have h6 : nativeFrameWords "java/lang/System" "arraycopy" 5 ≤ 200 := by decide +kernel
      show 2 * 0 + _ + _ ≤ _
      omega)
  have e1 : copied (vp_cell cA (n0, .inl f)) (vp_cell cA (n1, .inl h)) sp dp n = vp_cell cA (n1, .inl (va_cpy f h sp.toNatClampNeg dp.toNatClampNeg n.toNatClampNeg)) := va_copied (fun z => .int z) cA cA f h hs4
  rw [e1] at X' step
  have hl2 : a < H.size := (Array.getElem?_eq_some_iff.mp hc1).1
  have hheap : ((T.setVm vm').setCell a (vp_cell cA (n1, .inl (va_cpy f h sp.toNatClampNeg dp.toNatClampNeg n.toNatClampNeg)))).heap = H.setIfInBounds a (vp_cell cA (n1, .inl (va_cpy f h sp.toNatClampNeg dp.toNatClampNeg n.toNatClampNeg))) := by rw [← hT]; rfl
  have hI2 := hI.put (k := 0) (H1 := H.setIfInBounds a (vp_cell cA (n1, .inl (va_cpy f h sp.toNatClampNeg dp.toNatClampNeg n.toNatClampNeg)))) hm1 (e := .inl (cA, n1, .inl (va_cpy f h sp.toNatClampNeg dp.toNatClampNeg n.toNatClampNeg))) (by show (H.setIfInBounds a _)[a]? = some _; simp [Array.getElem?_setIfInBounds, hl2]) (by simp) (fun q hq => by simp [Array.getElem?_setIfInBounds, Ne.symm hq])
  obtain ⟨t2, a1, b1⟩ := (Z_un kk) p l e R s m args below meth c _ _ cells slots la hC (hI2.R.with (locs := locs ++ ((vp_cell cA (n0, .inl f)).stretch sp.toNatClampNeg n.toNatClampNeg).zipIdx.map fun q => ⟨a, dp.toNatClampNeg + q.2⟩) (fun q hq => by
      rcases List.mem_append.mp hq with h | h
      · exact hI.2.2.2.2 q h
      · obtain ⟨z, -, hz⟩ := List.mem_map.mp h
        rw [← hz]
        exact (hI.base hm1).1)) (by simp; exact hsz) hl hR _ hheap X'
  exact ⟨t2, step t2 a1, b1⟩
end ZMA
