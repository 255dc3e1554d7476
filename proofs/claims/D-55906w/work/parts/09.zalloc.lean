/-! what makes cells, and rows that zst doesn't hold -/
def znew (M : ZM) (e : va_E) : ZM := (fun b => if b = M.2 then some e else M.1 b, M.2 + 1)
theorem zI.new {g : ZG} {M : ZM} {H H1 : Heap} {locs : List Loc} {e : va_E} (h : zI g M H locs) (he : va_at (zD g) zcl (M.2, e) H1) (z : H1.size = H.size + 1) (oq : ∀ q : Nat, q < H.size → H1[q]? = H[q]?) : zI g (znew M e) H1 locs := by
  obtain ⟨⟨ws, hc, hP, hD⟩, h2, hS⟩ := h
  have hk : ∀ (k : Nat) (x : Nat × va_E), ws[k]? = some x → H1[x.1]? = H[x.1]? := fun k x hx => oq x.1 ((hP k x hx).lt)
  refine ⟨⟨ws ++ [(M.2, e)], fun b e1 hb => ?_, (hP.kept hk).app (fun k x hx => ?_), hD.push hP h2.symm (show (zs g).heap.size ≤ M.2 by rw [← h2]; exact hS.1)⟩, by rw [z, h2]; rfl, ⟨Nat.le_trans hS.1 (by omega), fun x h1 h3 => (oq x (Nat.lt_of_lt_of_le h1 hS.1)).trans (hS.2.1 x h1 h3), hS.2.2⟩⟩
  · unfold znew at hb
    dsimp only at hb
    by_cases hba : b = M.2
    · subst hba
      rw [if_pos rfl] at hb
      cases hb
      exact ⟨ws.length, by rw [List.getElem?_append_right (Nat.le_refl _), Nat.sub_self]; rfl⟩
    · rw [if_neg hba] at hb
      obtain ⟨j, hj⟩ := hc b e1 hb
      exact ⟨j, by rw [List.getElem?_append_left (List.getElem?_eq_some_iff.mp hj).1]; exact hj⟩
  · have hz : k < 1 := (List.getElem?_eq_some_iff.mp hx).1
    rw [show k = 0 by omega] at hx
    cases hx
    exact he
section ZAL
variable {g : ZG} {K : ZK} {Q : ZQ} {d cN sN pc idx ci : Nat} {M : ZM} {ls : List (Option Value)} {st rest : List Value}
theorem zs_new {fs : List Value} (hd : decode (zcc K) pc = .ok (.new idx, 3)) (h1 : Cond.classLink (zown K) idx (zC0 ci) ∈ lw_all) (h2 : Cond.instantiable (zC0 ci) (zN ci) ∈ lw_all) (h3 : Cond.initialized (zC0 ci) ∈ lw_all) (hlt : ci < zcl.length)
    (hfs : ∃ ty : Nat → FieldType, (∀ k, k < zN ci → parseFieldDescriptor (zT ci k).2.2.1 = some (ty k)) ∧ ∀ j, j < zN ci → defaultValue (ty j) = vp_V fs j) (hcN : 1 ≤ cN) (hsN : zN ci ≤ sN)
    (kk : Z g K Q d (cN - 1) (sN - zN ci) (znew M (.inr (ci, fs))) (pc + 3) ls (.ref M.2 :: st)) : Z g K Q d cN sN M pc ls st := by
  refine Z_mk ?_
  intro p l e R s m args below meth c H locs cells slots la hC hI hsz hl hR
  have ht := hC.2.2.2.2.2.2.1
  have hKn := zK_at hC hlt
  obtain ⟨ty, hty, hfs⟩ := hfs
  refine W.newcK hC.1 hC.2.1 hC.2.2.2.2.2.1 (ht _ h1) (ht _ h2) (ht _ h3) rfl hd (by omega) (by omega) hKn.2.1 rfl fun H1 kC hkC e1 z1 o1 => ?_
  rw [hI.2.1]
  refine (Z_un kk) p l e R s m args below meth c H1 locs (cells + 1) (slots + zN ci) la hC (hI.new ?_ z1 o1) (by omega) hl ⟨hR.1, hR.2.1, by omega, by omega⟩
  refine ⟨_, zcl_at hlt, ?_⟩
  rw [← hI.2.1]
  exact (u_born ty ht (zin ci hlt) hKn hkC e1 hty).to hfs
theorem zkA {p : Program} {l : Launch} {s : State} {m : MethodId} {args : Array Value} {meth : Method} {c : Code} (hC : zC g K p l s m args meth c) {t : Nat} {cA : ClassId} {ty : FieldType} (ht : (ztys g)[t]? = some (cA, ty)) : va_RA s cA ty := (hC.kk.2 t _ ht).2
theorem zs_newa {atype : ArrayType} {t : Nat} {cA : ClassId} {ty : FieldType} {a0 : vp_A} {x : Int32} {n : Nat} (hd : decode (zcc K) pc = .ok (.newarray atype, 2)) (h1 : Cond.arrayClass (newarray.typeOf atype) ∈ lw_all) (hty : newarray.typeOf atype = ty) (ht : (ztys g)[t]? = some (cA, ty)) (hob : ∀ C, ty ≠ .object C)
    (ha : ∀ c0 : ClassId, vp_cell c0 a0 = arrV c0 n (fun _ => defaultValue ty)) (hx : ¬ x < 0) (hn : x.toNatClampNeg = n) (hb : n * componentBytes ty ≤ 536870912) (hcN : 1 ≤ cN) (hsN : n ≤ sN)
    (kk : Z g K Q d (cN - 1) (sN - n) (znew M (.inl (cA, a0))) (pc + 2) ls (.ref M.2 :: rest)) : Z g K Q d cN sN M pc ls (.int x :: rest) := by
  subst hty
  refine Z_mk ?_
  intro p l e R s m args below meth c H locs cells slots la hC hI hsz hl hR
  have htb := hC.2.2.2.2.2.2.1
  refine va_newaK hC.1 hC.2.1 (htb _ h1) rfl hd rfl hx hn hb (by omega) (by omega) rfl fun H1 cB e1 z1 o1 hAr hNm => ?_
  have hk : s.vm.findClass ("[" ++ (newarray.typeOf atype).toString) = some cA := by
    have h := zkA hC ht
    unfold va_RA at h
    split at h
    · rename_i C e; exact absurd e (hob C)
    · exact h
  have hcc : cB = cA := Option.some.inj (hNm.symm.trans hk)
  subst hcc
  rw [hI.2.1]
  refine (Z_un kk) p l e R s m args below meth c H1 locs (cells + 1) (slots + n) la hC (hI.new ?_ z1 o1) (by omega) hl ⟨hR.1, hR.2.1, by omega, by omega⟩
  show H1[M.2]? = some (vp_cell cB a0)
  rw [ha, ← hI.2.1]
  exact e1
theorem zs_newq {t : Nat} {cA : ClassId} {C : String} {x : Int32} {n : Nat} (hd : decode (zcc K) pc = .ok (.anewarray idx, 3)) (h1 : Cond.classLink (zown K) idx C ∈ lw_all) (h2 : Cond.arrayOver (.object C) ∈ lw_tbl) (ht : (ztys g)[t]? = some (cA, .object C)) (hx : ¬ x < 0) (hn : x.toNatClampNeg = n) (hb : n * 4 ≤ 536870912) (hcN : 1 ≤ cN) (hsN : n ≤ sN)
    (kk : Z g K Q d (cN - 1) (sN - n) (znew M (.inl (cA, n, .inr (.inr (.inr (.inr (fun _ => none))))))) (pc + 3) ls (.ref M.2 :: rest)) : Z g K Q d cN sN M pc ls (.int x :: rest) := by
  subst hn
  refine Z_mk ?_
  intro p l e R s m args below meth c H locs cells slots la hC hI hsz hl hR
  have htb := hC.2.2.2.2.2.2.1
  have hAO : va_AO C s := (va_AO.of (hC.tbl _ h2)).moved (zwarm hC).alike
  refine W.anew hC.1 hC.2.1 hC.2.2.2.2.2.1 (htb _ h1) (va_AO.use hAO) rfl hd rfl hx hb (by omega) (by omega) fun cB kA comp f1 f2 f3 f4 => ?_
  generalize hH1 : H.push ({ cls := cB, slots := Array.replicate x.toNatClampNeg .null, vm := .none } : Cell) = H1
  have z1 : H1.size = H.size + 1 := by rw [← hH1, Array.size_push]
  have e1 : H1[H.size]? = some (arrV cB x.toNatClampNeg (fun _ => .null)) := by rw [← hH1, Array.getElem?_push_size, ← arrV_new]
  have o1 : ∀ q : Nat, q < H.size → H1[q]? = H[q]? := fun q hq => by rw [← hH1, Array.getElem?_push, if_neg (Nat.ne_of_lt hq)]
  obtain ⟨kA2, comp2, -, -, -, hk⟩ := zkA hC ht
  have hcc : cB = cA := Option.some.inj (f1.symm.trans hk)
  subst hcc
  rw [hI.2.1]
  refine (Z_un kk) p l e R s m args below meth c H1 locs (cells + 1) (slots + x.toNatClampNeg) la hC (hI.new ?_ z1 o1) (by omega) hl ⟨hR.1, hR.2.1, by omega, by omega⟩
  show H1[M.2]? = some (vp_cell cB _)
  rw [vp_cell_q, ← hI.2.1]
  exact e1
/-- a reference put into an array of its own class -/
theorem zs_aast {t a v n : Nat} {f : Nat → Option Nat} {cA : ClassId} {i : Int32} (hd : decode (zcc K) pc = .ok (.aastore, 1)) (ht : (ztys g)[t]? = some (cA, .object (zC0 ci))) (hm : M.1 a = some (.inl (cA, n, .inr (.inr (.inr (.inr f)))))) (hlt : ci < zcl.length) (hv : zis M v ci) (hin : vp_in i n)
    (kk : Z g K Q d cN sN (zup M a (.inl (cA, n, .inr (.inr (.inr (.inr (va_up f i.toNatClampNeg (some v)))))))) (pc + 1) ls rest) : Z g K Q d cN sN M pc ls (.ref v :: .int i :: .ref a :: rest) := by
  refine Z_mk ?_
  intro p l e R s m args below meth c H locs cells slots la hC hI hsz hl hR
  obtain ⟨fs, hv⟩ := hv
  obtain ⟨cellV, g1, g2, g3, -⟩ := zobj hC hI hlt hv
  obtain ⟨kA, comp, k1, k2, k3, -⟩ := zkA hC ht
  have hcls := (zK_at hC hlt).2
  have hcomp : comp = (zD g).1 ci := Option.some.inj (k3.symm.trans hcls.1)
  subst hcomp
  obtain ⟨kC, hkC, -⟩ := hcls.2
  have hlt2 : i.toNatClampNeg < n := Nat.not_le.mp fun q => hin (Or.inr q)
  have h0 : ¬ i < 0 := fun q => hin (Or.inl q)
  refine W.aast hC.1 hC.2.1 (hI.get hm) (fun q h => by cases h) (fun h => by cases h) k1 k2 rfl hkC ⟨h0, by show _ < (arrV _ _ _).slots.size; rw [arrV_size]; exact hlt2⟩ g1 (fun q h => by rw [g3] at h; cases h) (by rw [g2]; exact hkC) (by rw [g2]; exact va_assign hcls) rfl rfl hd fun H2 e1 e2 e3 => ?_
  refine (Z_un kk) p l e R s m args below meth c H2 _ cells slots la hC (hI.put hm ?_ e2 e3) (by omega) hl hR
  show H2[a]? = some (vp_cell _ _)
  rw [e1, vp_cell_q, vp_cell_q, arrV_store]
  congr 2
  funext q
  by_cases hq : q = i.toNatClampNeg
  · subst hq; simp [updV, va_up, va_rf]
  · simp [updV, va_up, hq]
/-- Object.<init>, called by a constructor -/
theorem zs_obj {a : Nat} (hd : decode (zcc K) pc = .ok (.invokespecial idx, 3)) (h1 : Cond.methodLink (zown K) idx Lib.objectInit ∈ lw_all) (h2 : Cond.instanceMethod Lib.objectInit ∈ lw_all) (h3 : Cond.code Lib.objectInit ⟨#[0xb1]⟩ 1 none ∈ lw_all) (hcat : (rest.map fun v => v.category).sum ≤ 8) (hd1 : 1 ≤ d)
    (kk : Z g K Q d cN sN M (pc + 3) ls rest) : Z g K Q d cN sN M pc ls (.ref a :: rest) := by
  refine Z_mk ?_
  intro p l e R s m args below meth c H locs cells slots la hC hI hsz hl hR
  have htb := hC.2.2.2.2.2.2.1
  exact W.objInit hC.1 hC.2.1 hC.2.2.2.2.2.1 (htb _ h1) (htb _ h2) (htb _ h3) rfl (by rw [hC.2.2.2.2.1]; exact hl.1.1) rfl hd (by omega) (by have h9 := lv_room (pc := pc) (m := m) (ls := la) (rest := .ref a :: rest) hcat; omega) ((Z_un kk) p l e R s m args below meth c H locs cells slots la hC hI hsz hl hR)
/-- an int constant of the pool -/
theorem zs_ldc {v : Int32} (hd : decode (zcc K) pc = .ok (.ldc idx, 2)) (h1 : Cond.constant (zown K) idx v ∈ lw_all) (kk : Z g K Q d cN sN M (pc + 2) ls (.int v :: rest)) : Z g K Q d cN sN M pc ls rest := by
  refine Z_mk ?_
  intro p l e R s m args below meth c H locs cells slots la hC hI hsz hl hR
  exact lv_ldc hC.1 hC.2.1 hC.2.2.2.2.2.1 (hC.2.2.2.2.2.2.1 _ h1) hd ((Z_un kk) p l e R s m args below meth c H locs cells slots la hC hI hsz hl hR)
/-- a cast that holds -/
theorem zs_cast {a : Nat} {nm : String} (hd : decode (zcc K) pc = .ok (.checkcast idx, 3)) (h1 : Cond.classLink (zown K) idx nm ∈ lw_all) (h2 : Cond.castable (zC0 ci) nm ∈ lw_tbl) (hlt : ci < zcl.length) (hv : zis M a ci) (kk : Z g K Q d cN sN M (pc + 3) ls (.ref a :: rest)) : Z g K Q d cN sN M pc ls (.ref a :: rest) := by
  refine Z_mk ?_
  intro p l e R s m args below meth c H locs cells slots la hC hI hsz hl hR
  exact va_castY hC.1 hC.2.1 hC.2.2.2.2.2.1 (hC.2.2.2.2.2.2.1 _ h1) (va_Nw.warmC (zwarm hC) (va_Nw.of rfl (hC.tbl _ h2))) (zrecv hC hI hlt hv) hd ((Z_un kk) p l e R s m args below meth c H locs cells slots la hC hI hsz hl hR)
/-- switches -/
theorem zs_tabIn {dflt lo hi : Int} {offs : Array Int} {len tgt : Nat} {x : Int32} {off : Int} (hd : decode (zcc K) pc = .ok (.tableswitch dflt lo hi offs, len)) (h1 : ¬ x.toInt < lo) (h2 : ¬ hi < x.toInt) (ho : offs[(x.toInt - lo).toNat]? = some off) (ht : (pc : Int) + off = (tgt : Int)) (kk : Z g K Q d cN sN M tgt ls rest) : Z g K Q d cN sN M pc ls (.int x :: rest) := by
  refine Z_mk ?_
  intro p l e R s m args below meth c H locs cells slots la hC hI hsz hl hR
  exact lv_tableIn hC.1 hC.2.1 hd h1 h2 ho ht ((Z_un kk) p l e R s m args below meth c H locs cells slots la hC hI hsz hl hR)
theorem zs_tabOut {dflt lo hi : Int} {offs : Array Int} {len tgt : Nat} {x : Int32} (hd : decode (zcc K) pc = .ok (.tableswitch dflt lo hi offs, len)) (h1 : x.toInt < lo ∨ hi < x.toInt) (ht : (pc : Int) + dflt = (tgt : Int)) (kk : Z g K Q d cN sN M tgt ls rest) : Z g K Q d cN sN M pc ls (.int x :: rest) := by
  refine Z_mk ?_
  intro p l e R s m args below meth c H locs cells slots la hC hI hsz hl hR
  exact lv_tableOut hC.1 hC.2.1 hd h1 ht ((Z_un kk) p l e R s m args below meth c H locs cells slots la hC hI hsz hl hR)
theorem zs_look {dflt : Int} {ps : Array (Int × Int)} {len tgt : Nat} {x : Int32} {off : Int} (hd : decode (zcc K) pc = .ok (.lookupswitch dflt ps, len)) (hp : (ps.toList.zip (ps.toList.drop 1)).all (fun (a, next) => a.1 < next.1) = true) (ho : Op.lookupswitch.offset ps.toList dflt x.toInt = off) (ht : (pc : Int) + off = (tgt : Int)) (kk : Z g K Q d cN sN M tgt ls rest) : Z g K Q d cN sN M pc ls (.int x :: rest) := by
  refine Z_mk ?_
  intro p l e R s m args below meth c H locs cells slots la hC hI hsz hl hR
  exact lv_lookup hC.1 hC.2.1 hd hp ho ht ((Z_un kk) p l e R s m args below meth c H locs cells slots la hC hI hsz hl hR)
/-- athrow; an exception that no handler here takes -/
theorem zs_throw {a : Nat} (hd : decode (zcc K) pc = .ok (.athrow, 1)) (hlt : ci < zcl.length) (hv : zis M a ci) (kk : ZT g K Q d cN sN M pc ls (zC0 ci) a) : Z g K Q d cN sN M pc ls (.ref a :: rest) := by
  refine Z_mk ?_
  intro p l e R s m args below meth c H locs cells slots la hC hI hsz hl hR
  obtain ⟨fs, hv⟩ := hv
  obtain ⟨cell, g1, g2, g3, -⟩ := zobj hC hI hlt hv
  exact vx_athrow hC.1 hC.2.1 hd (kk p l e R s m args below meth c H locs cells slots la rest cell hC hI hsz hl hR g1 g3 (by rw [g2]; exact (zK_at hC hlt).2.1))
theorem zT_out {E : String} {q : Nat} (hh : ∀ x ∈ tableOf (zhh K), covers x pc = false) (hq : Q.2 E q M) : ZT g K Q d cN sN M pc ls E q := by
  intro p l e R s m args below meth c H locs cells slots la rest ce hC hI hsz hl hR h1 h2 h3
  exact vx_out (by rw [hC.2.2.2.2.2.2.2.2.2.1]; exact hh) hC.2.2.2.1 h1 h2 h3 (fun t ht hW => ⟨M, hq, by rw [ht]; exact hI.R⟩) hI.2.2.2.2 (by omega) (by omega)
theorem zT_none {E : String} {q : Nat} (hh : zhh K = []) (hq : Q.2 E q M) : ZT g K Q d cN sN M pc ls E q := zT_out (by rw [hh]; intro x hx; cases hx) hq
/-- .. that a handler takes: those before it don't cover the place, or don't take its class -/
theorem zT_catch {E nm : String} {q : Nat} (pre : List ExceptionTableEntry) (x : ExceptionTableEntry) (suf : List ExceptionTableEntry) (hsplit : tableOf (zhh K) = pre ++ x :: suf)
    (hpass : ∀ z ∈ pre, covers z pc = false ∨ (z.catchType ≠ 0 ∧ ∃ n0 : String, Cond.classLink (zown K) z.catchType n0 ∈ lw_all ∧ (zV g → va_Nc E n0 (zs g)))) (hx : covers x pc = true) (h0 : x.catchType ≠ 0) (h1 : Cond.classLink (zown K) x.catchType nm ∈ lw_all) (h2 : Cond.castable E nm ∈ lw_tbl)
    (kk : Z g K Q d cN sN M x.handlerPc ls [.ref q]) : ZT g K Q d cN sN M pc ls E q := by
  intro p l e R s m args below meth c H locs cells slots la rest ce hC hI hsz hl hR g1 g2 g3
  have htb := hC.2.2.2.2.2.2.1
  exact vx_catch hC.2.2.2.2.2.1 pre x suf (by rw [hC.2.2.2.2.2.2.2.2.2.1]; exact hsplit) (fun z hz => (hpass z hz).imp id (fun h => ⟨h.1, h.2.choose, htb _ h.2.choose_spec.1, (h.2.choose_spec.2 hC.2.2.2.2.2.2.2.2.2.2.2.2.1).moved (zwarm hC).alike⟩)) hx h0 (htb _ h1) (va_Nw.use rfl (va_Nw.warmC (zwarm hC) (va_Nw.of rfl (hC.tbl _ h2)))) g1 g2 g3 ((Z_un kk) p l e R s m args below meth c H locs cells slots la hC hI hsz hl hR)
end ZAL
