/-! contracts out of the judgement, and calls by contract -/
section ZCT
variable {g : ZG} {K : ZK} {Q : ZQ} {d cN sN : Nat} {M : ZM}
theorem zsl_len : ∀ (vs : List Value), (∀ v ∈ vs, v.category = 1) → (lg_sl vs).length = vs.length
  | [], _ => rfl
  | v :: r, h => by
    have h1 := h v List.mem_cons_self
    have h2 := zsl_len r (fun w hw => h w (List.mem_cons_of_mem _ hw))
    unfold lg_sl at h2 ⊢
    rw [List.flatMap_cons, List.length_append, h2, if_neg (by omega)]
    simp; omega
theorem zargs_mem : ∀ (vs : List Value), (∀ v ∈ vs, v.category = 1) → ∀ (n : Nat) (rest : List (Option Value)) (q : Nat × Value), (∀ x ∈ rest, x = none) → q ∈ zPr n (vs.map some ++ rest) → q ∈ lv_args n vs
  | [], _, n, rest, q, hr, hq => by
    exfalso
    obtain ⟨i, v⟩ := q
    have h := ((zPr_mem _ n i v).mp hq).2
    have h2 := hr _ (List.mem_of_getElem? (by simpa using h))
    cases h2
  | v :: r, h, n, rest, q, hr, hq => by
    have h1 := h v List.mem_cons_self
    simp only [List.map_cons, List.cons_append, zPr, List.mem_cons] at hq
    unfold lv_args
    rw [if_neg (by omega)]
    rcases hq with rfl | hq
    · exact List.mem_cons_self
    · exact List.mem_cons_of_mem _ (zargs_mem r (fun w hw => h w (List.mem_cons_of_mem _ hw)) (n + 1) rest q hr hq)
/-- the locals with which a method begins -/
def zent (K : ZK) (args : List Value) : List (Option Value) := args.map some ++ List.replicate (znL K - args.length) none
theorem zent_ok {args : List Value} (hcat : ∀ v ∈ args, v.category = 1) (hn : args.length ≤ znL K) : zLs ((lg_sl args ++ List.replicate (znL K - (lg_sl args).length) Slot.unset).toArray) (znL K) (zent K args) := by
  have hl := lv_entry args (n := znL K) (by rw [zsl_len args hcat]; exact hn)
  refine ⟨lv_mono hl (fun q hq => ?_), by unfold zent; simp; omega, fun i v hv => ?_⟩
  · exact zargs_mem args hcat 0 _ q (fun x hx => List.eq_of_mem_replicate hx) hq
  · have hm := List.mem_of_getElem? hv
    unfold zent at hm
    rcases List.mem_append.mp hm with h | h
    · obtain ⟨w, hw, e⟩ := List.mem_map.mp h
      cases e
      exact hcat _ hw
    · have := List.eq_of_mem_replicate h
      cases this
theorem Ct.of {y : MethodName} {args : List Value} (hcls : y.cls = zown K) (hpl : plainName y.cls = true) (hV : zV g) (hF : zFok (zown K) (zfs K)) (hh : zhh K = []) (hini : zini K = true → y.name = "<init>") (hcat : ∀ v ∈ args, v.category = 1) (hn : args.length ≤ znL K)
    (h : Z g K Q d cN sN M 0 (zent K args) []) : Ct g y (ws_ y (zcc K) (znL K) (zret K)) args M d cN sN Q := by
  intro l hfl
  refine vx_ofW (cc := zcc K) (maxL := znL K) (ret := zret K) hpl rfl ?_
  intro p e s m args2 below meth c s₁ B hml htab hv
  obtain ⟨rfl, hR, hW⟩ := hv
  have hts := atoms_spec (ws := ws_ y (zcc K) (znL K) (zret K)) B.pre
  have hts : ∀ w ∈ lw_all, w.before _ s = true := fun w h => hts w (List.mem_cons_of_mem _ h)
  have hown : s.vm.findClass y.cls = some m.cls := findClass_of_methodNamed B.named
  rw [hcls] at hown
  have hC : zC g K p l s m args.toArray meth c := by
    refine ⟨B.exec, B.bytes, B.returns, B.notSynchronized, hml, hown, hts, hW, hfl, ?_, fun hi => ?_, hR.2.2, hV, hF⟩
    · rw [hh]
      exact List.eq_nil_iff_forall_not_mem.mpr htab
    · exact (name_of_methodNamed B.named B.method).1.trans (hini hi)
  rw [lg_entry_eq]
  exact (Z_un h) p l e _ s m args.toArray below meth c s.heap [] 0 0 _ hC hR (Nat.le_refl _) (zent_ok hcat hn) ⟨Nat.le_refl _, Nat.le_refl _, by rw [Nat.zero_add]; exact Nat.le_refl _, by rw [Nat.zero_add]; exact Nat.le_refl _⟩
theorem Ct.ofW {y : MethodName} {args : List Value} (hcls : y.cls = zown K) (hpl : plainName y.cls = true) (hV : zV g) (hF : zFok (zown K) (zfs K)) (hini : zini K = true → y.name = "<init>") (hcat : ∀ v ∈ args, v.category = 1) (hn : args.length ≤ znL K)
    (h : Z g K Q d cN sN M 0 (zent K args) []) : Ct g y (wsW_ y (zcc K) (znL K) (zret K) (zhh K)) args M d cN sN Q := by
  intro l hfl
  refine vx_ofWH (cc := zcc K) (maxL := znL K) (ret := zret K) (hh := zhh K) hpl rfl ?_
  intro p e s m args2 below meth c s₁ B hml hv
  obtain ⟨rfl, hR, hW⟩ := hv
  have hts0 := atoms_spec (ws := wsW_ y (zcc K) (znL K) (zret K) (zhh K)) B.pre
  have hts : ∀ w ∈ lw_all, w.before _ s = true := fun w h => hts0 w (List.mem_cons_of_mem _ h)
  have hown : s.vm.findClass y.cls = some m.cls := findClass_of_methodNamed B.named
  rw [hcls] at hown
  have hC : zC g K p l s m args.toArray meth c := by
    refine ⟨B.exec, B.bytes, B.returns, B.notSynchronized, hml, hown, hts, hW, hfl, ?_, fun hi => ?_, hR.2.2, hV, hF⟩
    · exact vx_table (x := y) B (hts0 _ List.mem_cons_self)
    · exact (name_of_methodNamed B.named B.method).1.trans (hini hi)
  rw [lg_entry_eq]
  exact (Z_un h) p l e _ s m args.toArray below meth c s.heap [] 0 0 _ hC hR (Nat.le_refl _) (zent_ok hcat hn) ⟨Nat.le_refl _, Nat.le_refl _, by rw [Nat.zero_add]; exact Nat.le_refl _, by rw [Nat.zero_add]; exact Nat.le_refl _⟩
theorem zblind {args : List Value} : FrameBlind (zPc g args M) := by
  intro a U fr mk h
  obtain ⟨h1, h2, h3⟩ := h
  exact ⟨h1, h2, h3⟩
theorem zR.with {H : Heap} {locs : List Loc} (h : zR g M H) (hl : ∀ q ∈ locs, zF g q.base) : zI g M H locs := ⟨h.1, h.2.1, h.2.2.1, h.2.2.2.1, hl⟩
/-- behind a call -/
theorem zgo {p : Program} {l : Launch} {e : Env} {R : Room} {s : State} {m : MethodId} {args a0 : Array Value} {below : List Frame} {meth : Method} {c : Code} {H : Heap} {locs : List Loc} {cells slots pc c2 s2 : Nat} {la : Array Slot} {ls : List (Option Value)} {st rest : List Value} {Q2 : ZQ}
    (hr : vx_Run p l e R s m args below meth c H locs cells slots c2 s2 (F0 m pc la st) rest (zO g Q2.1 a0) (zX g Q2.2) (zF g))
    (hC : zC g K p l s m args meth c) (hI : zI g M H locs) (hl : zLs la (znL K) ls) (hR : d ≤ R.frames ∧ 60 * d + 3300 ≤ R.locals ∧ cells + c2 + cN ≤ R.cells ∧ slots + s2 + sN ≤ R.slots)
    (hret : ∀ (v : Option Value) (M2 : ZM), Q2.1 v M2 → Z g K Q d cN sN M2 (pc + 3) ls (v.toList ++ rest)) (hthr : ∀ (E : String) (q : Nat) (M2 : ZM), Q2.2 E q M2 → ZT g K Q d cN sN M2 pc ls E q) :
    W p l e R s m args below meth c H locs cells slots (vx_MQ below (zO g Q.1) (zX g Q.2) args s R.cells R.slots (zF g)) (F0 m pc la st) := by
  intro T hT X
  have hloc : ∀ L : List Loc, (∀ q ∈ L, zF g q.base) → ∀ q ∈ locs ++ L, zF g q.base := fun L hL q hq => by
    rcases List.mem_append.mp hq with h | h
    · exact hI.2.2.2.2 q h
    · exact hL q h
  rcases hr T hT X with ⟨v, st₀, t, T', L, h0, X', hL, e1, e2, hq, stp⟩ | ⟨q, st₀, t, T', L, E, ce, h0, X', hL, e1, e2, hq, hce, hcv, hcl, stp⟩
  · obtain ⟨v2, M2, ev, hP, hM2⟩ := hq
    cases ev
    rw [← e1] at hM2
    obtain ⟨t2, a1, b1⟩ := (Z_un (hret v M2 hP)) p l e R s m args below meth c T'.heap (locs ++ L) (cells + c2) (slots + s2) la hC (hM2.with (hloc L hL)) X'.same.2.1 hl ⟨hR.1, hR.2.1, hR.2.2.1, hR.2.2.2⟩ T' rfl X'
    exact ⟨t2, stp t2 a1, b1⟩
  · obtain ⟨M2, hP, hM2⟩ := hq
    rw [← e1] at hM2 hce
    obtain ⟨t2, a1, b1⟩ := hthr E q M2 hP p l e R s m args below meth c T'.heap (locs ++ L) (cells + c2) (slots + s2) la rest ce hC (hM2.with (hloc L hL)) X'.same.2.1 hl ⟨hR.1, hR.2.1, hR.2.2.1, hR.2.2.2⟩ hce hcv hcl T' rfl X'
    exact ⟨t2, stp.trans a1, b1⟩
def zis (M : ZM) (a ci : Nat) : Prop := ∃ fs, M.1 a = some (.inr (ci, fs))
theorem zrecv {p : Program} {l : Launch} {s : State} {m : MethodId} {args : Array Value} {meth : Method} {c : Code} (hC : zC g K p l s m args meth c) {H : Heap} {locs : List Loc} (hI : zI g M H locs) {a ci : Nat} (hlt : ci < zcl.length) (h : zis M a ci) : ∃ cell : Cell, H[a]? = some cell ∧ cell.vm.isStatics = false ∧ s.vm.findClass (zC0 ci) = some cell.cls := by
  obtain ⟨fs, hm⟩ := h
  obtain ⟨cell, q1, q2, q3, -⟩ := zobj hC hI hlt hm
  exact ⟨cell, q1, by rw [q3]; rfl, by rw [q2]; exact (zK_at hC hlt).2.1⟩
/-- what the tables say of a callee: its class isn't a handle's, it takes n values, it keeps few locals -/
def zMok (y : MethodName) (n L : Nat) : Prop := (y.cls ≠ "java/lang/invoke/MethodHandle" ∧ y.cls ≠ "java/lang/invoke/VarHandle" ∧ (parseMethodDescriptor y.desc).map (fun d => d.parameters.length) = some n) ∧ L ≤ 40
variable {pc n L idx d2 c2 s2 a ci : Nat} {y : MethodName} {b : ByteArray} {r : Option FieldType} {hh : List (Nat × Nat × Nat × Nat)} {As rest st : List Value} {ls : List (Option Value)} {Q2 : ZQ} {C host : String}
theorem zroom {R : Room} (hd : d2 + 1 ≤ d) (hL : L ≤ 40) (hR : d ≤ R.frames ∧ 60 * d + 3300 ≤ R.locals) : (zrm d2 c2 s2).frames + 1 ≤ R.frames ∧ 8 + (L + 11) + (zrm d2 c2 s2).locals ≤ R.locals := by
  show d2 + 1 ≤ R.frames ∧ 8 + (L + 11) + (60 * d2 + 3300) ≤ R.locals
  omega
theorem zcallV (hk : decode (zcc K) pc = .ok (.invokevirtual idx, 3)) (hT : GoodIn lw_all (wsV (zown K) idx C y (ws_ y b L r))) (hm : zMok y n L) (hyC : y.cls = C) (hlt : ci < zcl.length) (hci : zC0 ci = C)
    (hct : Ct g y (ws_ y b L r) (.ref a :: As) M d2 c2 s2 Q2) (ho : zis M a ci) (hn : As.length = n) (hst : st = As.reverse ++ .ref a :: rest) (hcat : (rest.map fun v => v.category).sum ≤ 8) (hd : d2 + 1 ≤ d) (hc : c2 ≤ cN) (hs : s2 ≤ sN)
    (hret : ∀ (v : Option Value) (M2 : ZM), Q2.1 v M2 → Z g K Q d (cN - c2) (sN - s2) M2 (pc + 3) ls (v.toList ++ rest)) (hthr : ∀ (E : String) (q : Nat) (M2 : ZM), Q2.2 E q M2 → ZT g K Q d (cN - c2) (sN - s2) M2 pc ls E q) : Z g K Q d cN sN M pc ls st := by
  subst hst
  refine Z_mk ?_
  intro p l e R s m args below meth c H locs cells slots la hC hI hsz hl hR
  have hbl : FrameBlind (zPc g (.ref a :: As) M) := zblind
  refine zgo (vx_runV (As := As) (rest := rest) ⟨hC.1, hC.2.1, hC.2.2.2.2.1, hC.2.2.2.2.2.1, hC.2.2.2.2.2.2.1⟩ (hct l hC.2.2.2.2.2.2.2.2.1) (cwV n hC.2.2.2.2.2.2.1 hT rfl rfl rfl ⟨hyC, hm.1⟩ (zroom hd hm.2 ⟨hR.1, hR.2.1⟩)) ⟨hbl, by rw [← hci]; exact zrecv hC hI hlt ho, fun U hU hW => ⟨rfl, by rw [hU]; exact hI.R, State.WarmedH.trans (zwarm hC) hW⟩⟩ rfl hn hl.1.1 rfl (lv_room hcat) hk ⟨by omega, by omega⟩) hC hI hl ⟨hR.1, hR.2.1, by omega, by omega⟩ hret hthr
theorem zcallVW (hk : decode (zcc K) pc = .ok (.invokevirtual idx, 3)) (hT : GoodIn lw_all (wsV (zown K) idx C y (wsW_ y b L r hh))) (hm : zMok y n L) (hyC : y.cls = C) (hlt : ci < zcl.length) (hci : zC0 ci = C)
    (hct : Ct g y (wsW_ y b L r hh) (.ref a :: As) M d2 c2 s2 Q2) (ho : zis M a ci) (hn : As.length = n) (hst : st = As.reverse ++ .ref a :: rest) (hcat : (rest.map fun v => v.category).sum ≤ 8) (hd : d2 + 1 ≤ d) (hc : c2 ≤ cN) (hs : s2 ≤ sN)
    (hret : ∀ (v : Option Value) (M2 : ZM), Q2.1 v M2 → Z g K Q d (cN - c2) (sN - s2) M2 (pc + 3) ls (v.toList ++ rest)) (hthr : ∀ (E : String) (q : Nat) (M2 : ZM), Q2.2 E q M2 → ZT g K Q d (cN - c2) (sN - s2) M2 pc ls E q) : Z g K Q d cN sN M pc ls st := by
  subst hst
  refine Z_mk ?_
  intro p l e R s m args below meth c H locs cells slots la hC hI hsz hl hR
  have hbl : FrameBlind (zPc g (.ref a :: As) M) := zblind
  refine zgo (vx_runVX (As := As) (rest := rest) ⟨hC.1, hC.2.1, hC.2.2.2.2.1, hC.2.2.2.2.2.1, hC.2.2.2.2.2.2.1⟩ (hct l hC.2.2.2.2.2.2.2.2.1) (vx_cwVW n hC.2.2.2.2.2.2.1 hT rfl rfl rfl ⟨hyC, hm.1⟩ (zroom hd hm.2 ⟨hR.1, hR.2.1⟩)) ⟨hbl, by rw [← hci]; exact zrecv hC hI hlt ho, fun U hU hW => ⟨rfl, by rw [hU]; exact hI.R, State.WarmedH.trans (zwarm hC) hW⟩⟩ rfl hn hl.1.1 rfl (lv_room hcat) hk ⟨by omega, by omega⟩) hC hI hl ⟨hR.1, hR.2.1, by omega, by omega⟩ hret hthr
theorem zcallS (hk : decode (zcc K) pc = .ok (.invokestatic idx, 3)) (hT : GoodIn lw_all (va_wsS (zown K) idx y (ws_ y b L r))) (hm : zMok y n L)
    (hct : Ct g y (ws_ y b L r) As M d2 c2 s2 Q2) (hn : As.length = n) (hst : st = As.reverse ++ rest) (hcat : (rest.map fun v => v.category).sum ≤ 8) (hd : d2 + 1 ≤ d) (hc : c2 ≤ cN) (hs : s2 ≤ sN)
    (hret : ∀ (v : Option Value) (M2 : ZM), Q2.1 v M2 → Z g K Q d (cN - c2) (sN - s2) M2 (pc + 3) ls (v.toList ++ rest)) (hthr : ∀ (E : String) (q : Nat) (M2 : ZM), Q2.2 E q M2 → ZT g K Q d (cN - c2) (sN - s2) M2 pc ls E q) : Z g K Q d cN sN M pc ls st := by
  subst hst
  refine Z_mk ?_
  intro p l e R s m args below meth c H locs cells slots la hC hI hsz hl hR
  have hbl : FrameBlind (zPc g As M) := zblind
  refine zgo (vx_runS (As := As) (rest := rest) ⟨hC.1, hC.2.1, hC.2.2.2.2.1, hC.2.2.2.2.2.1, hC.2.2.2.2.2.2.1⟩ (hct l hC.2.2.2.2.2.2.2.2.1) (va_cwS n hC.2.2.2.2.2.2.1 hT rfl rfl rfl hm.1 (zroom hd hm.2 ⟨hR.1, hR.2.1⟩)) ⟨hbl, fun U hU hW => ⟨rfl, by rw [hU]; exact hI.R, State.WarmedH.trans (zwarm hC) hW⟩⟩ rfl hn hl.1.1 rfl (lv_room hcat) hk ⟨by omega, by omega⟩) hC hI hl ⟨hR.1, hR.2.1, by omega, by omega⟩ hret hthr
theorem zcallSW (hk : decode (zcc K) pc = .ok (.invokestatic idx, 3)) (hT : GoodIn lw_all (va_wsS (zown K) idx y (wsW_ y b L r hh))) (hm : zMok y n L)
    (hct : Ct g y (wsW_ y b L r hh) As M d2 c2 s2 Q2) (hn : As.length = n) (hst : st = As.reverse ++ rest) (hcat : (rest.map fun v => v.category).sum ≤ 8) (hd : d2 + 1 ≤ d) (hc : c2 ≤ cN) (hs : s2 ≤ sN)
    (hret : ∀ (v : Option Value) (M2 : ZM), Q2.1 v M2 → Z g K Q d (cN - c2) (sN - s2) M2 (pc + 3) ls (v.toList ++ rest)) (hthr : ∀ (E : String) (q : Nat) (M2 : ZM), Q2.2 E q M2 → ZT g K Q d (cN - c2) (sN - s2) M2 pc ls E q) : Z g K Q d cN sN M pc ls st := by
  subst hst
  refine Z_mk ?_
  intro p l e R s m args below meth c H locs cells slots la hC hI hsz hl hR
  have hbl : FrameBlind (zPc g As M) := zblind
  refine zgo (vx_runSX (As := As) (rest := rest) ⟨hC.1, hC.2.1, hC.2.2.2.2.1, hC.2.2.2.2.2.1, hC.2.2.2.2.2.2.1⟩ (hct l hC.2.2.2.2.2.2.2.2.1) (vx_cwSW n hC.2.2.2.2.2.2.1 hT rfl rfl rfl hm.1 (zroom hd hm.2 ⟨hR.1, hR.2.1⟩)) ⟨hbl, fun U hU hW => ⟨rfl, by rw [hU]; exact hI.R, State.WarmedH.trans (zwarm hC) hW⟩⟩ rfl hn hl.1.1 rfl (lv_room hcat) hk ⟨by omega, by omega⟩) hC hI hl ⟨hR.1, hR.2.1, by omega, by omega⟩ hret hthr
theorem zcallI (hk : decode (zcc K) pc = .ok (.invokespecial idx, 3)) (h1 : Cond.initialized y.cls ∈ lw_all) (h2 : Cond.methodLink (zown K) idx y ∈ lw_all) (h3 : Cond.instanceMethod y ∈ lw_all) (h4 : Cond.code y b L none ∈ lw_all) (h5 : y.name = "<init>") (hm : zMok y n L)
    (hct : Ct g y (ws_ y b L none) (.ref a :: As) M d2 c2 s2 Q2) (hn : As.length = n) (hst : st = As.reverse ++ .ref a :: rest) (hcat : (rest.map fun v => v.category).sum ≤ 8) (hd : d2 + 1 ≤ d) (hc : c2 ≤ cN) (hs : s2 ≤ sN)
    (hret : ∀ (v : Option Value) (M2 : ZM), Q2.1 v M2 → Z g K Q d (cN - c2) (sN - s2) M2 (pc + 3) ls (v.toList ++ rest)) (hthr : ∀ (E : String) (q : Nat) (M2 : ZM), Q2.2 E q M2 → ZT g K Q d (cN - c2) (sN - s2) M2 pc ls E q) : Z g K Q d cN sN M pc ls st := by
  subst hst
  refine Z_mk ?_
  intro p l e R s m args below meth c H locs cells slots la hC hI hsz hl hR
  have hbl : FrameBlind (zPc g (.ref a :: As) M) := zblind
  have ht := hC.2.2.2.2.2.2.1
  refine zgo (vx_runI (As := As) (rest := rest) ⟨hC.1, hC.2.1, hC.2.2.2.2.1, hC.2.2.2.2.2.1, ht⟩ (hct l hC.2.2.2.2.2.2.2.2.1) (cwI n ht (lw_meth h4) rfl rfl rfl (ht _ h1) (ht _ h2) (ht _ h3) h5 hm.1 (zroom hd hm.2 ⟨hR.1, hR.2.1⟩)) ⟨hbl, fun U hU hW => ⟨rfl, by rw [hU]; exact hI.R, State.WarmedH.trans (zwarm hC) hW⟩⟩ rfl hn hl.1.1 rfl (lv_room hcat) hk ⟨by omega, by omega⟩) hC hI hl ⟨hR.1, hR.2.1, by omega, by omega⟩ hret hthr
theorem zcnB {p : Program} {l : Launch} {s : State} {m : MethodId} {args : Array Value} {meth : Method} {c : Code} (hC : zC g K p l s m args meth c) {R : Room} (h1 : Cond.initialized y.cls ∈ lw_all) (h2 : Cond.methodLinkNest (zown K) idx y host ∈ lw_tbl) (h4 : Cond.code y b L r ∈ lw_all) (hm : zMok y n L) (hd : d2 + 1 ≤ d) (hR : d ≤ R.frames ∧ 60 * d + 3300 ≤ R.locals) : va_CN R s args (zown K) idx y host b L r (ws_ y b L r) (zrm d2 c2 s2) c2 s2 n :=
  va_cnB n hC.2.2.2.2.2.2.1 (lw_meth h4) rfl rfl rfl (va_Nw.warmM (zwarm hC) (va_Nw.of rfl (hC.tbl _ h2))) (hC.2.2.2.2.2.2.1 _ h1) hm.1 (zroom hd hm.2 hR)
theorem zcallVN (hk : decode (zcc K) pc = .ok (.invokevirtual idx, 3)) (h1 : Cond.initialized y.cls ∈ lw_all) (h2 : Cond.methodLinkNest (zown K) idx y host ∈ lw_tbl) (h3 : Cond.instanceMethod y ∈ lw_all) (h5 : Cond.selects C y y ∈ lw_all) (h4 : Cond.code y b L r ∈ lw_all) (hm : zMok y n L) (hlt : ci < zcl.length) (hci : zC0 ci = C)
    (hct : Ct g y (ws_ y b L r) (.ref a :: As) M d2 c2 s2 Q2) (ho : zis M a ci) (hn : As.length = n) (hst : st = As.reverse ++ .ref a :: rest) (hcat : (rest.map fun v => v.category).sum ≤ 8) (hd : d2 + 1 ≤ d) (hc : c2 ≤ cN) (hs : s2 ≤ sN)
    (hret : ∀ (v : Option Value) (M2 : ZM), Q2.1 v M2 → Z g K Q d (cN - c2) (sN - s2) M2 (pc + 3) ls (v.toList ++ rest)) (hthr : ∀ (E : String) (q : Nat) (M2 : ZM), Q2.2 E q M2 → ZT g K Q d (cN - c2) (sN - s2) M2 pc ls E q) : Z g K Q d cN sN M pc ls st := by
  subst hst
  refine Z_mk ?_
  intro p l e R s m args below meth c H locs cells slots la hC hI hsz hl hR
  have hbl : FrameBlind (zPc g (.ref a :: As) M) := zblind
  have ht := hC.2.2.2.2.2.2.1
  refine zgo (vx_runVN (As := As) (rest := rest) ⟨hC.1, hC.2.1, hC.2.2.2.2.1, hC.2.2.2.2.2.1, ht⟩ (hct l hC.2.2.2.2.2.2.2.2.1) ⟨zcnB hC h1 h2 h4 hm hd ⟨hR.1, hR.2.1⟩, ht _ h3, ht _ h5⟩ ⟨hbl, by rw [← hci]; exact zrecv hC hI hlt ho, fun U hU hW => ⟨rfl, by rw [hU]; exact hI.R, State.WarmedH.trans (zwarm hC) hW⟩⟩ rfl hn hl.1.1 rfl (lv_room hcat) hk ⟨by omega, by omega⟩) hC hI hl ⟨hR.1, hR.2.1, by omega, by omega⟩ hret hthr
theorem zcallSN (hk : decode (zcc K) pc = .ok (.invokestatic idx, 3)) (h1 : Cond.initialized y.cls ∈ lw_all) (h2 : Cond.methodLinkNest (zown K) idx y host ∈ lw_tbl) (h3 : Cond.static y ∈ lw_all) (h4 : Cond.code y b L r ∈ lw_all) (hm : zMok y n L)
    (hct : Ct g y (ws_ y b L r) As M d2 c2 s2 Q2) (hn : As.length = n) (hst : st = As.reverse ++ rest) (hcat : (rest.map fun v => v.category).sum ≤ 8) (hd : d2 + 1 ≤ d) (hc : c2 ≤ cN) (hs : s2 ≤ sN)
    (hret : ∀ (v : Option Value) (M2 : ZM), Q2.1 v M2 → Z g K Q d (cN - c2) (sN - s2) M2 (pc + 3) ls (v.toList ++ rest)) (hthr : ∀ (E : String) (q : Nat) (M2 : ZM), Q2.2 E q M2 → ZT g K Q d (cN - c2) (sN - s2) M2 pc ls E q) : Z g K Q d cN sN M pc ls st := by
  subst hst
  refine Z_mk ?_
  intro p l e R s m args below meth c H locs cells slots la hC hI hsz hl hR
  have hbl : FrameBlind (zPc g As M) := zblind
  have ht := hC.2.2.2.2.2.2.1
  refine zgo (vx_runSN (As := As) (rest := rest) ⟨hC.1, hC.2.1, hC.2.2.2.2.1, hC.2.2.2.2.2.1, ht⟩ (hct l hC.2.2.2.2.2.2.2.2.1) ⟨zcnB hC h1 h2 h4 hm hd ⟨hR.1, hR.2.1⟩, ht _ h3, trivial⟩ ⟨hbl, fun U hU hW => ⟨rfl, by rw [hU]; exact hI.R, State.WarmedH.trans (zwarm hC) hW⟩⟩ rfl hn hl.1.1 rfl (lv_room hcat) hk ⟨by omega, by omega⟩) hC hI hl ⟨hR.1, hR.2.1, by omega, by omega⟩ hret hthr
theorem zcallIN (hk : decode (zcc K) pc = .ok (.invokespecial idx, 3)) (h1 : Cond.initialized y.cls ∈ lw_all) (h2 : Cond.methodLinkNest (zown K) idx y host ∈ lw_tbl) (h3 : Cond.instanceMethod y ∈ lw_all) (h4 : Cond.code y b L none ∈ lw_all) (h5 : y.name = "<init>") (hm : zMok y n L)
    (hct : Ct g y (ws_ y b L none) (.ref a :: As) M d2 c2 s2 Q2) (hn : As.length = n) (hst : st = As.reverse ++ .ref a :: rest) (hcat : (rest.map fun v => v.category).sum ≤ 8) (hd : d2 + 1 ≤ d) (hc : c2 ≤ cN) (hs : s2 ≤ sN)
    (hret : ∀ (v : Option Value) (M2 : ZM), Q2.1 v M2 → Z g K Q d (cN - c2) (sN - s2) M2 (pc + 3) ls (v.toList ++ rest)) (hthr : ∀ (E : String) (q : Nat) (M2 : ZM), Q2.2 E q M2 → ZT g K Q d (cN - c2) (sN - s2) M2 pc ls E q) : Z g K Q d cN sN M pc ls st := by
  subst hst
  refine Z_mk ?_
  intro p l e R s m args below meth c H locs cells slots la hC hI hsz hl hR
  have hbl : FrameBlind (zPc g (.ref a :: As) M) := zblind
  have ht := hC.2.2.2.2.2.2.1
  refine zgo (vx_runIN (As := As) (rest := rest) ⟨hC.1, hC.2.1, hC.2.2.2.2.1, hC.2.2.2.2.2.1, ht⟩ (hct l hC.2.2.2.2.2.2.2.2.1) ⟨zcnB hC h1 h2 h4 hm hd ⟨hR.1, hR.2.1⟩, h5, ht _ h3⟩ ⟨hbl, fun U hU hW => ⟨rfl, by rw [hU]; exact hI.R, State.WarmedH.trans (zwarm hC) hW⟩⟩ rfl hn hl.1.1 rfl (lv_room hcat) hk ⟨by omega, by omega⟩) hC hI hl ⟨hR.1, hR.2.1, by omega, by omega⟩ hret hthr
/-- super.m(..) -/
theorem zcallSU (hk : decode (zcc K) pc = .ok (.invokespecial idx, 3)) (hT : GoodIn lw_all (va_wsSU (zown K) idx y (ws_ y b L r))) (hm : zMok y n L) (hy : y.name ≠ "<init>") (hlt : ci < zcl.length) (hci : zC0 ci = zown K)
    (hct : Ct g y (ws_ y b L r) (.ref a :: As) M d2 c2 s2 Q2) (ho : zis M a ci) (hn : As.length = n) (hst : st = As.reverse ++ .ref a :: rest) (hcat : (rest.map fun v => v.category).sum ≤ 8) (hd : d2 + 1 ≤ d) (hc : c2 ≤ cN) (hs : s2 ≤ sN)
    (hret : ∀ (v : Option Value) (M2 : ZM), Q2.1 v M2 → Z g K Q d (cN - c2) (sN - s2) M2 (pc + 3) ls (v.toList ++ rest)) (hthr : ∀ (E : String) (q : Nat) (M2 : ZM), Q2.2 E q M2 → ZT g K Q d (cN - c2) (sN - s2) M2 pc ls E q) : Z g K Q d cN sN M pc ls st := by
  subst hst
  refine Z_mk ?_
  intro p l e R s m args below meth c H locs cells slots la hC hI hsz hl hR
  have hbl : FrameBlind (zPc g (.ref a :: As) M) := zblind
  have ht := hC.2.2.2.2.2.2.1
  refine zgo (vx_runSU (As := As) (rest := rest) (C := zC0 ci) (zK_at hC hlt).2 ⟨hC.1, hC.2.1, hC.2.2.2.2.1, hC.2.2.2.2.2.1, ht⟩ (hct l hC.2.2.2.2.2.2.2.2.1) (va_cwSU n ht hT rfl rfl rfl ⟨hy, hm.1.2.2⟩ (zroom hd hm.2 ⟨hR.1, hR.2.1⟩)) ⟨hbl, zrecv hC hI hlt ho, fun U hU hW => ⟨rfl, by rw [hU]; exact hI.R, State.WarmedH.trans (zwarm hC) hW⟩⟩ rfl hn hl.1.1 rfl (lv_room hcat) hk ⟨by omega, by omega⟩) hC hI hl ⟨hR.1, hR.2.1, by omega, by omega⟩ hret hthr
/-- a method found in a class above the receiver's -/
theorem zcallU {x : MethodName} {owner : String} (hk : decode (zcc K) pc = .ok (.invokevirtual idx, 3)) (hT : GoodIn lw_all (va_wsU (zown K) idx C owner x y (ws_ y b L r))) (hyx : y = ⟨owner, x.name, x.desc⟩) (hm : (owner ≠ "java/lang/invoke/MethodHandle" ∧ owner ≠ "java/lang/invoke/VarHandle" ∧ (parseMethodDescriptor x.desc).map (fun d => d.parameters.length) = some n) ∧ L ≤ 40) (hlt : ci < zcl.length) (hci : zC0 ci = C)
    (hct : Ct g y (ws_ y b L r) (.ref a :: As) M d2 c2 s2 Q2) (ho : zis M a ci) (hn : As.length = n) (hst : st = As.reverse ++ .ref a :: rest) (hcat : (rest.map fun v => v.category).sum ≤ 8) (hd : d2 + 1 ≤ d) (hc : c2 ≤ cN) (hs : s2 ≤ sN)
    (hret : ∀ (v : Option Value) (M2 : ZM), Q2.1 v M2 → Z g K Q d (cN - c2) (sN - s2) M2 (pc + 3) ls (v.toList ++ rest)) (hthr : ∀ (E : String) (q : Nat) (M2 : ZM), Q2.2 E q M2 → ZT g K Q d (cN - c2) (sN - s2) M2 pc ls E q) : Z g K Q d cN sN M pc ls st := by
  subst hst
  refine Z_mk ?_
  intro p l e R s m args below meth c H locs cells slots la hC hI hsz hl hR
  have hbl : FrameBlind (zPc g (.ref a :: As) M) := zblind
  have ht := hC.2.2.2.2.2.2.1
  refine zgo (vx_runU (As := As) (rest := rest) ⟨hC.1, hC.2.1, hC.2.2.2.2.1, hC.2.2.2.2.2.1, ht⟩ (hct l hC.2.2.2.2.2.2.2.2.1) (va_cwU n ht hT rfl rfl rfl hyx hm.1 (zroom hd hm.2 ⟨hR.1, hR.2.1⟩)) ⟨hbl, by rw [← hci]; exact zrecv hC hI hlt ho, fun U hU hW => ⟨rfl, by rw [hU]; exact hI.R, State.WarmedH.trans (zwarm hC) hW⟩⟩ rfl hn hl.1.1 rfl (lv_room hcat) hk ⟨by omega, by omega⟩) hC hI hl ⟨hR.1, hR.2.1, by omega, by omega⟩ hret hthr
/-- a contract that returns alone; one that answers r and changes nothing -/
def zQr (P : Option Value → ZM → Prop) : ZQ := (P, fun _ _ _ => False)
def zQp (M : ZM) (v : Value) : ZQ := zQr (fun w M2 => w = some v ∧ M2 = M)
def zQv (M : ZM) : ZQ := zQr (fun w M2 => w = none ∧ M2 = M)
theorem zno {M2 : ZM → ZM} : ∀ (E : String) (q : Nat) (M3 : ZM), False → ZT g K Q d cN sN M3 pc ls E q := fun _ _ _ h => h.elim
theorem zpr {v : Value} (h : Z g K Q d cN sN M pc ls (v :: rest)) : ∀ (w : Option Value) (M2 : ZM), (zQp M v).1 w M2 → Z g K Q d cN sN M2 pc ls (w.toList ++ rest) := by
  intro w M2 h2
  obtain ⟨rfl, rfl⟩ := h2
  exact h
end ZCT
