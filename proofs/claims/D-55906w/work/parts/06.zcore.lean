/-! Z: a small layer over the kit's W. Memory: a partial map of addresses, and the heap's size. -/
def TZ6 : u_T := fun k => TX7 (k + 6)
def zcl : List vw_C := [(RX1, TX1, 12), (RX2, TX2, 15), (RX3, TX3, 3), (RX4, TX4, 5), (RX5, TX5, 6), (RX6, TX6, 21), (RX7, TZ6, 3), (RJ1, TJ1, 3), (RJ3, TJ3, 4), (RX8, TX8, 0), (RX9, TX9, 0), (RJ12, TJ12, 0), (RJ13, TJ13, 0), (RJ14, TJ14, 0), (RJ17, TJ17, 0), (RJ9, TJ9, 0), (RJ22, TJ22, 0)]
abbrev ZG : Type := va_G × (Nat → ClassId) × (Nat → ClassId) × State × Nat
abbrev ZM : Type := (Nat → Option va_E) × Nat
abbrev ZQ : Type := (Option Value → ZM → Prop) × (String → Nat → ZM → Prop)
/-- a method's constants: own class, code, locals, answer, handlers, is it a constructor, field entries (entry, class, place, type, mode: 0 plain, 1 read alone, 2 final) -/
abbrev ZE : Type := Nat × Nat × Nat × FieldType × Nat
abbrev ZK : Type := String × ByteArray × Nat × Option FieldType × List (Nat × Nat × Nat × Nat) × Bool × List ZE
def zD (g : ZG) : va_G := g.1
def zA (g : ZG) : Nat → ClassId := g.2.1
def zL (g : ZG) : Nat → ClassId := g.2.2.1
def zs (g : ZG) : State := g.2.2.2.1
def zb (g : ZG) : Nat := g.2.2.2.2
def ztys (g : ZG) : List (ClassId × FieldType) := [(zA g 0, .int), (zA g 1, .long), (zA g 2, .double), (zA g 3, .char), (zA g 4, .byte), (zA g 5, .object "ErrataPress$Rule"), (zA g 6, .object "ErrataPress$House"), (zA g 7, .object "ErrataPress$Sheet"), (zA g 8, .object "ErrataPress$Laugh"), (zA g 9, .object "java/lang/Object")]
def zF (g : ZG) : Nat → Prop := fun q => (zs g).heap.size ≤ q
def zsl : Nat → Cond := fun k => match k with
  | 0 => siteWord_1_1
  | 1 => siteWord_1_2
  | 2 => siteWord_1_3
  | 3 => siteWord_1_4
  | _ => siteWord_1_5
def zV (g : ZG) : Prop := (∀ w ∈ lw_tbl, w.before #[Value.ref (zb g)] (zs g) = true) ∧ (Jvm.Cond.and given_1 narrow_1).before #[Value.ref (zb g)] (zs g) = true ∧ zb g < (zs g).heap.size ∧ va_K (zD g) zcl (ztys g) (zs g) ∧ ∀ (k : Nat) (x : MethodName) (pc i : Nat) (σ : Jvm.Lambda.Shape), k < 5 → zsl k = .lambdaSite x pc i σ → (zs g).lambdaAt? x pc i σ = some (zL g k, none)
def zI (g : ZG) (M : ZM) (H : Heap) (locs : List Loc) : Prop := (∃ ws : va_W, (∀ a e, M.1 a = some e → ∃ k : Nat, ws[k]? = some (a, e)) ∧ va_P (zD g) zcl ws H ∧ va_D (zF g) ws) ∧ H.size = M.2 ∧ va_S (zF g) (zs g).heap H locs
def zR (g : ZG) (M : ZM) (H : Heap) : Prop := zI g M H []
theorem zI.R {g : ZG} {M : ZM} {H : Heap} {locs : List Loc} (h : zI g M H locs) : zR g M H := ⟨h.1, h.2.1, h.2.2.1, h.2.2.2.1, fun _ hl => by cases hl⟩
def zO (g : ZG) (P : Option Value → ZM → Prop) : Array Value → State → Outcome → State → Prop := fun _ _ o t => ∃ (v : Option Value) (M : ZM), o = .returned v ∧ P v M ∧ zR g M t.heap
def zX (g : ZG) (P : String → Nat → ZM → Prop) : String → Addr → State → State → Prop := fun E q _ t => ∃ M : ZM, P E q M ∧ zR g M t.heap
def zown (K : ZK) : String := K.1
def zcc (K : ZK) : ByteArray := K.2.1
def znL (K : ZK) : Nat := K.2.2.1
def zret (K : ZK) : Option FieldType := K.2.2.2.1
def zhh (K : ZK) : List (Nat × Nat × Nat × Nat) := K.2.2.2.2.1
def zini (K : ZK) : Bool := K.2.2.2.2.2.1
def zfs (K : ZK) : List ZE := K.2.2.2.2.2.2
/-- the place of a class's fields -/
def zT (ci : Nat) : u_T := (zcl.getD ci ("", TX1, 0)).2.1
def zN (ci : Nat) : Nat := (zcl.getD ci ("", TX1, 0)).2.2
def zC0 (ci : Nat) : String := (zcl.getD ci ("", TX1, 0)).1
/-- a field entry of the class own: a word of the tables -/
def zfok (own : String) (x : ZE) : Prop := x.2.1 < zcl.length ∧ x.2.2.1 < zN x.2.1 ∧ parseFieldDescriptor (zT x.2.1 x.2.2.1).2.2.1 = some x.2.2.2.1 ∧
  ((∃ host, Cond.fieldLinkNest own x.1 (zT x.2.1 x.2.2.1).1 (zT x.2.1 x.2.2.1).2.1 (zT x.2.1 x.2.2.1).2.2.1 host ∈ lw_tbl ∧ x.2.2.2.2 ≤ 1) ∨ Cond.fieldLink own x.1 (zT x.2.1 x.2.2.1).1 (zT x.2.1 x.2.2.1).2.1 (zT x.2.1 x.2.2.1).2.2.1 ∈ lw_all) ∧
  (x.2.2.2.2 = 0 → (zT x.2.1 x.2.2.1).2.2.2 = false) ∧ (x.2.2.2.2 = 2 → (zT x.2.1 x.2.2.1).2.2.2 = true ∧ (zT x.2.1 x.2.2.1).1 = own)
def zFok (own : String) (F : List ZE) : Prop := ∀ x ∈ F, zfok own x
/-- the method's frame stands in this context -/
def zC (g : ZG) (K : ZK) (p : Program) (l : Launch) (s : State) (m : MethodId) (args : Array Value) (meth : Method) (c : Code) : Prop :=
  p.tables.exec = Jvm.exec ∧ c.code = zcc K ∧ meth.sig.returnType = zret K ∧ meth.locks = false ∧ c.maxLocals = znL K ∧ s.vm.findClass (zown K) = some m.cls ∧ (∀ w ∈ lw_all, w.before args s = true) ∧ (zs g).WarmedH s.vm ∧ l.flags = flags0 ∧ c.exceptionTable.toList = tableOf (zhh K) ∧ (zini K = true → meth.name = "<init>") ∧ va_S (zF g) (zs g).heap s.heap [] ∧ zV g ∧ zFok (zown K) (zfs K)
def zPr : Nat → List (Option Value) → List (Nat × Value)
  | _, [] => []
  | i, none :: r => zPr (i + 1) r
  | i, some v :: r => (i, v) :: zPr (i + 1) r
theorem zPr_mem : ∀ (l : List (Option Value)) (n i : Nat) (v : Value), (i, v) ∈ zPr n l ↔ n ≤ i ∧ l[i - n]? = some (some v) := by
  intro l
  induction l with
  | nil => intro n i v; simp [zPr]
  | cons x r ih =>
    intro n i v
    have key : (n + 1 ≤ i ∧ r[i - (n + 1)]? = some (some v)) ∨ (i = n ∧ x = some v) ↔ n ≤ i ∧ (x :: r)[i - n]? = some (some v) := by
      constructor
      · rintro (⟨h1, h2⟩ | ⟨h1, h2⟩)
        · refine ⟨by omega, ?_⟩
          rw [show i - n = (i - (n + 1)) + 1 by omega, List.getElem?_cons_succ]
          exact h2
        · subst h1; subst h2
          simp
      · rintro ⟨h1, h2⟩
        rcases Nat.eq_or_lt_of_le h1 with h | h
        · subst h
          rw [Nat.sub_self, List.getElem?_cons_zero] at h2
          exact Or.inr ⟨rfl, Option.some.inj h2⟩
        · rw [show i - n = (i - (n + 1)) + 1 by omega, List.getElem?_cons_succ] at h2
          exact Or.inl ⟨h, h2⟩
    cases x with
    | none => rw [← key]; simp [zPr, ih]
    | some w =>
      rw [← key]
      simp only [zPr, List.mem_cons, Prod.mk.injEq, ih, Option.some.injEq]
      constructor
      · rintro (⟨rfl, rfl⟩ | h)
        · exact Or.inr ⟨rfl, rfl⟩
        · exact Or.inl h
      · rintro (h | ⟨rfl, rfl⟩)
        · exact Or.inr h
        · exact Or.inl ⟨rfl, rfl⟩
def zLs (la : Array Slot) (n : Nat) (ls : List (Option Value)) : Prop := lv_has la n (zPr 0 ls) ∧ ls.length = n ∧ ∀ (i : Nat) (v : Value), ls[i]? = some (some v) → v.category = 1
theorem zLs.at {la : Array Slot} {n : Nat} {ls : List (Option Value)} (h : zLs la n ls) {i : Nat} {v : Value} (hv : ls[i]? = some (some v)) : la[i]? = some (.val v) := h.1.2.2 (i, v) ((zPr_mem ls 0 i v).mpr ⟨Nat.zero_le _, hv⟩)
theorem lv_mono {la : Array Slot} {n : Nat} {l l' : List (Nat × Value)} (h : lv_has la n l) (hs : ∀ q ∈ l', q ∈ l) : lv_has la n l' := ⟨h.1, h.2.1, fun q hq => h.2.2 q (hs q hq)⟩
def zset (ls : List (Option Value)) (i : Nat) (v : Value) : List (Option Value) := ls.set i (some v)
theorem zset_get {ls : List (Option Value)} {i j : Nat} {v w : Value} (h : (zset ls i v)[j]? = some (some w)) : (j = i ∧ w = v) ∨ (j ≠ i ∧ ls[j]? = some (some w)) := by
  unfold zset at h
  by_cases hj : i = j
  · subst hj
    have hl : i < (ls.set i (some v)).length := (List.getElem?_eq_some_iff.mp h).1
    rw [List.length_set] at hl
    rw [List.getElem?_set_self hl] at h
    cases h
    exact Or.inl ⟨rfl, rfl⟩
  · rw [List.getElem?_set_ne hj] at h
    exact Or.inr ⟨fun e => hj e.symm, h⟩
theorem zset_ok {la la2 : Array Slot} {n i : Nat} {ls : List (Option Value)} {v : Value} (h0 : zLs la n ls) (hv : v.category = 1) (h : lv_has la2 n ((i, v) :: (zPr 0 ls).filter (fun q => !(q.1 == i) && !(q.1 + 1 == i && q.2.category == 2)))) : zLs la2 n (zset ls i v) := by
  refine ⟨lv_mono h ?_, by rw [← h0.2.1]; simp [zset], fun j w hw => ?_⟩
  · rintro ⟨j, w⟩ hq
    have h1 := ((zPr_mem _ 0 j w).mp hq).2
    rw [Nat.sub_zero] at h1
    rcases zset_get h1 with ⟨rfl, rfl⟩ | ⟨e2, e3⟩
    · exact List.mem_cons_self
    · refine List.mem_cons_of_mem _ (List.mem_filter.mpr ⟨(zPr_mem ls 0 j w).mpr ⟨Nat.zero_le _, e3⟩, ?_⟩)
      have hc := h0.2.2 j w e3
      simp only [Bool.and_eq_true, Bool.not_eq_true', beq_eq_false_iff_ne, ne_eq, Bool.and_eq_false_iff]
      exact ⟨e2, Or.inr (by omega)⟩
  · rcases zset_get hw with ⟨-, rfl⟩ | ⟨-, e3⟩
    · exact hv
    · exact h0.2.2 j w e3
/-- the judgement: from pc, with these locals, stack and memory, d frames deep, with so many cells and slots left, the method comes to an end that Q allows -/
def Z0 (g : ZG) (K : ZK) (Q : ZQ) (d cN sN : Nat) (M : ZM) (pc : Nat) (ls : List (Option Value)) (st : List Value) : Prop :=
  ∀ (p : Program) (l : Launch) (e : Env) (R : Room) (s : State) (m : MethodId) (args : Array Value) (below : List Frame) (meth : Method) (c : Code) (H : Heap) (locs : List Loc) (cells slots : Nat) (la : Array Slot),
    zC g K p l s m args meth c → zI g M H locs → s.heap.size ≤ H.size → zLs la (znL K) ls → (d ≤ R.frames ∧ 60 * d + 3300 ≤ R.locals ∧ cells + cN ≤ R.cells ∧ slots + sN ≤ R.slots) →
    W p l e R s m args below meth c H locs cells slots (vx_MQ below (zO g Q.1) (zX g Q.2) args s R.cells R.slots (zF g)) (F0 m pc la st)
/-- .. an exception of class E at q, thrown at pc -/
def ZT (g : ZG) (K : ZK) (Q : ZQ) (d cN sN : Nat) (M : ZM) (pc : Nat) (ls : List (Option Value)) (E : String) (q : Nat) : Prop :=
  ∀ (p : Program) (l : Launch) (e : Env) (R : Room) (s : State) (m : MethodId) (args : Array Value) (below : List Frame) (meth : Method) (c : Code) (H : Heap) (locs : List Loc) (cells slots : Nat) (la : Array Slot) (rest : List Value) (ce : Cell),
    zC g K p l s m args meth c → zI g M H locs → s.heap.size ≤ H.size → zLs la (znL K) ls → (d ≤ R.frames ∧ 60 * d + 3300 ≤ R.locals ∧ cells + cN ≤ R.cells ∧ slots + sN ≤ R.slots) →
    H[q]? = some ce → ce.vm = .none → s.vm.findClass E = some ce.cls →
    vx_W p l e R s m args below meth c H locs cells slots (vx_MQ below (zO g Q.1) (zX g Q.2) args s R.cells R.slots (zF g)) (F0 m pc la rest) q
theorem Z0.mono {g : ZG} {K : ZK} {Q : ZQ} {d cN sN d2 c2 s2 pc : Nat} {M : ZM} {ls : List (Option Value)} {st : List Value} (h : Z0 g K Q d cN sN M pc ls st) (h1 : d ≤ d2) (h2 : cN ≤ c2) (h3 : sN ≤ s2) : Z0 g K Q d2 c2 s2 M pc ls st := by
  intro p l e R s m args below meth c H locs cells slots la a1 a2 a3 a4 a5
  exact h p l e R s m args below meth c H locs cells slots la a1 a2 a3 a4 ⟨by omega, by omega, by omega, by omega⟩
theorem ZT.mono {g : ZG} {K : ZK} {Q : ZQ} {d cN sN d2 c2 s2 pc : Nat} {M : ZM} {ls : List (Option Value)} {E : String} {q : Nat} (h : ZT g K Q d cN sN M pc ls E q) (h1 : d ≤ d2) (h2 : cN ≤ c2) (h3 : sN ≤ s2) : ZT g K Q d2 c2 s2 M pc ls E q := by
  intro p l e R s m args below meth c H locs cells slots la rest ce a1 a2 a3 a4 a5
  exact h p l e R s m args below meth c H locs cells slots la rest ce a1 a2 a3 a4 ⟨by omega, by omega, by omega, by omega⟩
/-- a contract: called with these arguments in this memory, at most d frames deep, with at most c new cells of s slots, it ends as Q says -/
def zrm (d c s : Nat) : Room := { frames := d, cells := c, slots := s, locals := 60 * d + 3300 }
def zPc (g : ZG) (args : List Value) (M : ZM) : Array Value → State → Prop := va_Pc args (fun U => zR g M U.heap ∧ (zs g).WarmedH U.vm)
def Ct (g : ZG) (y : MethodName) (ws : List Cond) (args : List Value) (M : ZM) (d c s : Nat) (Q : ZQ) : Prop :=
  ∀ l : Launch, l.flags = flags0 → vx_Met l y ws (zrm d c s) (zPc g args M) (zO g Q.1) (zX g Q.2) c s (zF g)
section ZST
variable {g : ZG} {K : ZK} {Q : ZQ} {d cN sN pc : Nat} {M : ZM} {ls : List (Option Value)} {st : List Value}
/-! what an instruction asks, and where it goes on -/
def zld (ls : List (Option Value)) (i : Nat) (k : Value → Prop) : Prop := match ls[i]? with
  | some (some v) => k v
  | _ => False
def zi1 (st : List Value) (k : Int32 → List Value → Prop) : Prop := match st with
  | .int x :: r => k x r
  | _ => False
def zi2 (st : List Value) (k : Int32 → Int32 → List Value → Prop) : Prop := match st with
  | .int y :: .int x :: r => k x y r
  | _ => False
def zl2 (st : List Value) (k : Int64 → Int64 → List Value → Prop) : Prop := match st with
  | .long y :: .long x :: r => k x y r
  | _ => False
def zf2 (st : List Value) (k : UInt32 → UInt32 → List Value → Prop) : Prop := match st with
  | .float y :: .float x :: r => k x y r
  | _ => False
def zd2 (st : List Value) (k : UInt64 → UInt64 → List Value → Prop) : Prop := match st with
  | .double y :: .double x :: r => k x y r
  | _ => False
def zr1 (st : List Value) (k : Nat → List Value → Prop) : Prop := match st with
  | .ref x :: r => k x r
  | _ => False
def zri (st : List Value) (k : Nat → Int32 → List Value → Prop) : Prop := match st with
  | .int y :: .ref x :: r => k x y r
  | _ => False
def zrii (st : List Value) (k : Nat → Int32 → Int32 → List Value → Prop) : Prop := match st with
  | .int z :: .int y :: .ref x :: r => k x y z r
  | _ => False
def zril (st : List Value) (k : Nat → Int32 → Int64 → List Value → Prop) : Prop := match st with
  | .long z :: .int y :: .ref x :: r => k x y z r
  | _ => False
def zrid (st : List Value) (k : Nat → Int32 → UInt64 → List Value → Prop) : Prop := match st with
  | .double z :: .int y :: .ref x :: r => k x y z r
  | _ => False
def zrir (st : List Value) (k : Nat → Int32 → Nat → List Value → Prop) : Prop := match st with
  | .ref z :: .int y :: .ref x :: r => k x y z r
  | _ => False
def zrv (st : List Value) (k : Nat → Value → List Value → Prop) : Prop := match st with
  | v :: .ref x :: r => k x v r
  | _ => False
def zv1 (st : List Value) (k : Value → List Value → Prop) : Prop := match st with
  | v :: r => k v r
  | _ => False
def zv2 (st : List Value) (k : Value → Value → List Value → Prop) : Prop := match st with
  | w :: v :: r => k v w r
  | _ => False
theorem zld_e {k : Value → Prop} {i : Nat} (h : zld ls i k) : ∃ v, ls[i]? = some (some v) ∧ k v := by
  unfold zld at h; split at h
  · exact ⟨_, by assumption, h⟩
  · exact h.elim
theorem zi1_e {k : Int32 → List Value → Prop} (h : zi1 st k) : ∃ x r, st = .int x :: r ∧ k x r := by
  unfold zi1 at h; split at h
  · exact ⟨_, _, rfl, h⟩
  · exact h.elim
theorem zi2_e {k : Int32 → Int32 → List Value → Prop} (h : zi2 st k) : ∃ x y r, st = .int y :: .int x :: r ∧ k x y r := by
  unfold zi2 at h; split at h
  · exact ⟨_, _, _, rfl, h⟩
  · exact h.elim
theorem zl2_e {k : Int64 → Int64 → List Value → Prop} (h : zl2 st k) : ∃ x y r, st = .long y :: .long x :: r ∧ k x y r := by
  unfold zl2 at h; split at h
  · exact ⟨_, _, _, rfl, h⟩
  · exact h.elim
theorem zf2_e {k : UInt32 → UInt32 → List Value → Prop} (h : zf2 st k) : ∃ x y r, st = .float y :: .float x :: r ∧ k x y r := by
  unfold zf2 at h; split at h
  · exact ⟨_, _, _, rfl, h⟩
  · exact h.elim
theorem zd2_e {k : UInt64 → UInt64 → List Value → Prop} (h : zd2 st k) : ∃ x y r, st = .double y :: .double x :: r ∧ k x y r := by
  unfold zd2 at h; split at h
  · exact ⟨_, _, _, rfl, h⟩
  · exact h.elim
theorem zr1_e {k : Nat → List Value → Prop} (h : zr1 st k) : ∃ x r, st = .ref x :: r ∧ k x r := by
  unfold zr1 at h; split at h
  · exact ⟨_, _, rfl, h⟩
  · exact h.elim
theorem zri_e {k : Nat → Int32 → List Value → Prop} (h : zri st k) : ∃ x y r, st = .int y :: .ref x :: r ∧ k x y r := by
  unfold zri at h; split at h
  · exact ⟨_, _, _, rfl, h⟩
  · exact h.elim
theorem zrii_e {k : Nat → Int32 → Int32 → List Value → Prop} (h : zrii st k) : ∃ x y z r, st = .int z :: .int y :: .ref x :: r ∧ k x y z r := by
  unfold zrii at h; split at h
  · exact ⟨_, _, _, _, rfl, h⟩
  · exact h.elim
theorem zril_e {k : Nat → Int32 → Int64 → List Value → Prop} (h : zril st k) : ∃ x y z r, st = .long z :: .int y :: .ref x :: r ∧ k x y z r := by
  unfold zril at h; split at h
  · exact ⟨_, _, _, _, rfl, h⟩
  · exact h.elim
theorem zrid_e {k : Nat → Int32 → UInt64 → List Value → Prop} (h : zrid st k) : ∃ x y z r, st = .double z :: .int y :: .ref x :: r ∧ k x y z r := by
  unfold zrid at h; split at h
  · exact ⟨_, _, _, _, rfl, h⟩
  · exact h.elim
theorem zrir_e {k : Nat → Int32 → Nat → List Value → Prop} (h : zrir st k) : ∃ x y z r, st = .ref z :: .int y :: .ref x :: r ∧ k x y z r := by
  unfold zrir at h; split at h
  · exact ⟨_, _, _, _, rfl, h⟩
  · exact h.elim
theorem zrv_e {k : Nat → Value → List Value → Prop} (h : zrv st k) : ∃ x v r, st = v :: .ref x :: r ∧ k x v r := by
  unfold zrv at h; split at h
  · exact ⟨_, _, _, rfl, h⟩
  · exact h.elim
theorem zv1_e {k : Value → List Value → Prop} (h : zv1 st k) : ∃ v r, st = v :: r ∧ k v r := by
  unfold zv1 at h; split at h
  · exact ⟨_, _, rfl, h⟩
  · exact h.elim
theorem zv2_e {k : Value → Value → List Value → Prop} (h : zv2 st k) : ∃ v w r, st = w :: v :: r ∧ k v w r := by
  unfold zv2 at h; split at h
  · exact ⟨_, _, _, rfl, h⟩
  · exact h.elim
/-- a jump -/
def ztg (pc : Nat) (off : Int) (k : Nat → Prop) : Prop := 0 ≤ (pc : Int) + off ∧ k ((pc : Int) + off).toNat
/-- a field's entry -/
def zfe : List ZE → Nat → Option (Nat × Nat × FieldType × Nat)
  | [], _ => none
  | x :: r, i => if x.1 = i then some x.2 else zfe r i
theorem zfe_mem : ∀ (F : List ZE) (i : Nat) (x : Nat × Nat × FieldType × Nat), zfe F i = some x → (i, x) ∈ F := by
  intro F
  induction F with
  | nil => intro i x h; cases h
  | cons y r ih =>
    intro i x h
    unfold zfe at h
    split at h
    · rename_i e
      cases h
      subst e
      exact List.mem_cons_self
    · exact List.mem_cons_of_mem _ (ih i x h)
/-- a memory with one cell changed -/
def zup (M : ZM) (a : Nat) (e : va_E) : ZM := (fun b => if b = a then some e else M.1 b, M.2)
def zgf (K : ZK) (M : ZM) (i a : Nat) (k : Value → Prop) : Prop := match zfe (zfs K) i with
  | some (ci, kf, _, _) => match M.1 a with
    | some (.inr (c2, fs)) => c2 = ci ∧ (match fs[kf]? with
      | some v => k v
      | none => False)
    | _ => False
  | none => False
def zfit (ty : FieldType) (v : Value) : Prop := narrow ty v = v ∧ fits ty v = true
def zpf (K : ZK) (M : ZM) (i a : Nat) (v : Value) (k : ZM → Prop) : Prop := match zfe (zfs K) i with
  | some (ci, kf, ty, mode) => match M.1 a with
    | some (.inr (c2, fs)) => c2 = ci ∧ kf < fs.length ∧ zfit ty v ∧ (mode = 0 ∨ (mode = 2 ∧ zini K = true)) ∧ k (zup M a (.inr (ci, fs.set kf v)))
    | _ => False
  | none => False
/-- arrays -/
def zai (c : ClassId) (M : ZM) (a : Nat) (k : Nat → (Nat → Int32) → Prop) : Prop := match M.1 a with
  | some (.inl (cA, n, .inl f)) => cA = c ∧ k n f
  | _ => False
def zal (c : ClassId) (M : ZM) (a : Nat) (k : Nat → (Nat → Int64) → Prop) : Prop := match M.1 a with
  | some (.inl (cA, n, .inr (.inl f))) => cA = c ∧ k n f
  | _ => False
def zad (c : ClassId) (M : ZM) (a : Nat) (k : Nat → (Nat → UInt64) → Prop) : Prop := match M.1 a with
  | some (.inl (cA, n, .inr (.inr (.inr (.inl f))))) => cA = c ∧ k n f
  | _ => False
def zar (M : ZM) (a : Nat) (k : ClassId → Nat → (Nat → Option Nat) → Prop) : Prop := match M.1 a with
  | some (.inl (cA, n, .inr (.inr (.inr (.inr f))))) => k cA n f
  | _ => False
def zaa (M : ZM) (a : Nat) (k : ClassId → Nat → Prop) : Prop := match M.1 a with
  | some (.inl (cA, x)) => k cA x.1
  | _ => False
def zRt (g : ZG) (c : ClassId) : Prop := c = zA g 5 ∨ c = zA g 6 ∨ c = zA g 7 ∨ c = zA g 8 ∨ c = zA g 9
theorem zgf_e {i a : Nat} {k : Value → Prop} (h : zgf K M i a k) : ∃ ci kf ty mode fs v, (i, ci, kf, ty, mode) ∈ zfs K ∧ M.1 a = some (.inr (ci, fs)) ∧ fs[kf]? = some v ∧ k v := by
  unfold zgf at h
  split at h
  · rename_i ci kf ty mode he
    split at h
    · rename_i c2 fs hm
      obtain ⟨rfl, h⟩ := h
      split at h
      · exact ⟨_, _, _, _, _, _, zfe_mem _ _ _ he, hm, by assumption, h⟩
      · exact h.elim
    · exact h.elim
  · exact h.elim
theorem zpf_e {i a : Nat} {v : Value} {k : ZM → Prop} (h : zpf K M i a v k) : ∃ ci kf ty mode fs, (i, ci, kf, ty, mode) ∈ zfs K ∧ M.1 a = some (.inr (ci, fs)) ∧ kf < fs.length ∧ zfit ty v ∧ (mode = 0 ∨ (mode = 2 ∧ zini K = true)) ∧ k (zup M a (.inr (ci, fs.set kf v))) := by
  unfold zpf at h
  split at h
  · rename_i ci kf ty mode he
    split at h
    · rename_i c2 fs hm
      obtain ⟨rfl, h⟩ := h
      exact ⟨_, _, _, _, _, zfe_mem _ _ _ he, hm, h⟩
    · exact h.elim
  · exact h.elim
theorem zai_e {c : ClassId} {a : Nat} {k : Nat → (Nat → Int32) → Prop} (h : zai c M a k) : ∃ n f, M.1 a = some (.inl (c, n, .inl f)) ∧ k n f := by
  unfold zai at h; split at h
  · obtain ⟨rfl, h⟩ := h
    exact ⟨_, _, by assumption, h⟩
  · exact h.elim
theorem zal_e {c : ClassId} {a : Nat} {k : Nat → (Nat → Int64) → Prop} (h : zal c M a k) : ∃ n f, M.1 a = some (.inl (c, n, .inr (.inl f))) ∧ k n f := by
  unfold zal at h; split at h
  · obtain ⟨rfl, h⟩ := h
    exact ⟨_, _, by assumption, h⟩
  · exact h.elim
theorem zad_e {c : ClassId} {a : Nat} {k : Nat → (Nat → UInt64) → Prop} (h : zad c M a k) : ∃ n f, M.1 a = some (.inl (c, n, .inr (.inr (.inr (.inl f))))) ∧ k n f := by
  unfold zad at h; split at h
  · obtain ⟨rfl, h⟩ := h
    exact ⟨_, _, by assumption, h⟩
  · exact h.elim
theorem zar_e {a : Nat} {k : ClassId → Nat → (Nat → Option Nat) → Prop} (h : zar M a k) : ∃ c n f, M.1 a = some (.inl (c, n, .inr (.inr (.inr (.inr f))))) ∧ k c n f := by
  unfold zar at h; split at h
  · exact ⟨_, _, _, by assumption, h⟩
  · exact h.elim
theorem zaa_e {a : Nat} {k : ClassId → Nat → Prop} (h : zaa M a k) : ∃ c x, M.1 a = some (.inl (c, x)) ∧ k c x.1 := by
  unfold zaa at h; split at h
  · exact ⟨_, _, by assumption, h⟩
  · exact h.elim
/-- one instruction, but calls, allocations, throws, switches, statics, casts -/
def zst (g : ZG) (K : ZK) (Q : ZQ) (i : Instr) (len pc : Nat) (ls : List (Option Value)) (st : List Value) (M : ZM) (k : Nat → List (Option Value) → List Value → ZM → Prop) : Prop := match i with
  | .aload_n n => zld ls n.val fun v => (v = .null ∨ ∃ a, v = .ref a) ∧ k (pc + 1) ls (v :: st) M
  | .aload n => zld ls n fun v => (v = .null ∨ ∃ a, v = .ref a) ∧ k (pc + 2) ls (v :: st) M
  | .iload_n n => zld ls n.val fun v => (∃ x, v = .int x) ∧ k (pc + 1) ls (v :: st) M
  | .iload n => zld ls n fun v => (∃ x, v = .int x) ∧ k (pc + 2) ls (v :: st) M
  | .fload n => zld ls n fun v => (∃ x, v = .float x) ∧ k (pc + 2) ls (v :: st) M
  | .istore_n n => zi1 st fun x r => n.val < znL K ∧ k (pc + 1) (zset ls n.val (.int x)) r M
  | .istore n => zi1 st fun x r => n < znL K ∧ k (pc + 2) (zset ls n (.int x)) r M
  | .astore_n n => zv1 st fun v r => (v = .null ∨ ∃ a, v = .ref a) ∧ n.val < znL K ∧ k (pc + 1) (zset ls n.val v) r M
  | .astore n => zv1 st fun v r => (v = .null ∨ ∃ a, v = .ref a) ∧ n < znL K ∧ k (pc + 2) (zset ls n v) r M
  | .fstore n => zv1 st fun v r => (∃ x, v = .float x) ∧ n < znL K ∧ k (pc + 2) (zset ls n v) r M
  | .iinc n c => zld ls n fun v => ∃ x, v = .int x ∧ n < znL K ∧ k (pc + 3) (zset ls n (.int (x + Int32.ofInt c))) st M
  | .aconst_null => k (pc + 1) ls (.null :: st) M
  | .iconst n => k (pc + 1) ls (.int (Int32.ofInt n) :: st) M
  | .bipush n => k (pc + 2) ls (.int (Int8.ofInt n).toInt32 :: st) M
  | .sipush n => k (pc + 3) ls (.int (Int16.ofInt n).toInt32 :: st) M
  | .lconst n => k (pc + 1) ls (.long (Int64.ofNat n.val) :: st) M
  | .fconst 0 => k (pc + 1) ls (.float FP.fconst0 :: st) M
  | .dconst 0 => k (pc + 1) ls (.double FP.dconst0 :: st) M
  | .iadd => zi2 st fun x y r => k (pc + 1) ls (.int (x + y) :: r) M
  | .isub => zi2 st fun x y r => k (pc + 1) ls (.int (x - y) :: r) M
  | .imul => zi2 st fun x y r => k (pc + 1) ls (.int (x * y) :: r) M
  | .idiv => zi2 st fun x y r => ¬ y = 0 ∧ k (pc + 1) ls (.int (x / y) :: r) M
  | .irem => zi2 st fun x y r => ¬ y = 0 ∧ k (pc + 1) ls (.int (x - x / y * y) :: r) M
  | .ineg => zi1 st fun x r => k (pc + 1) ls (.int (-x) :: r) M
  | .iand => zi2 st fun x y r => k (pc + 1) ls (.int (x &&& y) :: r) M
  | .ior => zi2 st fun x y r => k (pc + 1) ls (.int (x ||| y) :: r) M
  | .ixor => zi2 st fun x y r => k (pc + 1) ls (.int (x ^^^ y) :: r) M
  | .ishl => zi2 st fun x y r => k (pc + 1) ls (.int (x <<< (y &&& 31)) :: r) M
  | .ishr => zi2 st fun x y r => k (pc + 1) ls (.int (x >>> (y &&& 31)) :: r) M
  | .iushr => zi2 st fun x y r => k (pc + 1) ls (.int (x.toUInt32 >>> (y.toUInt32 &&& Int32.toUInt32 31)).toInt32 :: r) M
  | .i2l => zi1 st fun x r => k (pc + 1) ls (.long x.toInt64 :: r) M
  | .i2c => zi1 st fun x r => k (pc + 1) ls (.int (x.toUInt32 % 65536).toInt32 :: r) M
  | .i2b => zi1 st fun x r => k (pc + 1) ls (.int x.toInt8.toInt32 :: r) M
  | .i2f => zi1 st fun x r => k (pc + 1) ls (.float (FP.i2f x) :: r) M
  | .i2d => zi1 st fun x r => k (pc + 1) ls (.double (FP.i2d x) :: r) M
  | .f2d => zv1 st fun v r => ∃ x, v = .float x ∧ vf_n64 (FP.f2d x) ∧ k (pc + 1) ls (.double (FP.f2d x) :: r) M
  | .fdiv => zf2 st fun x y r => vf_n32 (FP.fdiv x y) ∧ k (pc + 1) ls (.float (FP.fdiv x y) :: r) M
  | .ddiv => zd2 st fun x y r => vf_n64 (FP.ddiv x y) ∧ k (pc + 1) ls (.double (FP.ddiv x y) :: r) M
  | .lcmp => zl2 st fun x y r => k (pc + 1) ls (.int (lg_cmp x y) :: r) M
  | .fcmp op => zf2 st fun x y r => k (pc + 1) ls (.int (Op.cmpValue (FP.fcmp x y) op) :: r) M
  | .dcmp op => zd2 st fun x y r => k (pc + 1) ls (.int (Op.cmpValue (FP.dcmp x y) op) :: r) M
  | .pop => zv1 st fun v r => v.category = 1 ∧ k (pc + 1) ls r M
  | .dup => zv1 st fun v r => v.category = 1 ∧ k (pc + 1) ls (v :: v :: r) M
  | .dup_x1 => zv2 st fun v w r => v.category = 1 ∧ w.category = 1 ∧ k (pc + 1) ls (w :: v :: w :: r) M
  | .dup2 => zv2 st fun v w r => v.category = 1 ∧ w.category = 1 ∧ k (pc + 1) ls (w :: v :: w :: v :: r) M
  | .goto off => ztg pc off fun t => k t ls st M
  | .if_icmp .eq off => zi2 st fun x y r => ztg pc off fun t => (x = y → k t ls r M) ∧ (¬ x = y → k (pc + 3) ls r M)
  | .if_icmp .ne off => zi2 st fun x y r => ztg pc off fun t => (¬ x = y → k t ls r M) ∧ (x = y → k (pc + 3) ls r M)
  | .if_icmp .lt off => zi2 st fun x y r => ztg pc off fun t => (x < y → k t ls r M) ∧ (¬ x < y → k (pc + 3) ls r M)
  | .if_icmp .ge off => zi2 st fun x y r => ztg pc off fun t => (y ≤ x → k t ls r M) ∧ (¬ y ≤ x → k (pc + 3) ls r M)
  | .if_icmp .gt off => zi2 st fun x y r => ztg pc off fun t => (y < x → k t ls r M) ∧ (¬ y < x → k (pc + 3) ls r M)
  | .if_icmp .le off => zi2 st fun x y r => ztg pc off fun t => (x ≤ y → k t ls r M) ∧ (¬ x ≤ y → k (pc + 3) ls r M)
  | .ifCond .eq off => zi1 st fun x r => ztg pc off fun t => (x = 0 → k t ls r M) ∧ (¬ x = 0 → k (pc + 3) ls r M)
  | .ifCond .ne off => zi1 st fun x r => ztg pc off fun t => (¬ x = 0 → k t ls r M) ∧ (x = 0 → k (pc + 3) ls r M)
  | .ifCond .lt off => zi1 st fun x r => ztg pc off fun t => (x < 0 → k t ls r M) ∧ (¬ x < 0 → k (pc + 3) ls r M)
  | .ifCond .ge off => zi1 st fun x r => ztg pc off fun t => (0 ≤ x → k t ls r M) ∧ (¬ 0 ≤ x → k (pc + 3) ls r M)
  | .ifCond .gt off => zi1 st fun x r => ztg pc off fun t => (0 < x → k t ls r M) ∧ (¬ 0 < x → k (pc + 3) ls r M)
  | .ifCond .le off => zi1 st fun x r => ztg pc off fun t => (x ≤ 0 → k t ls r M) ∧ (¬ x ≤ 0 → k (pc + 3) ls r M)
  | .if_acmp .eq off => zv2 st fun v w r => ∃ a b : Option Nat, v = va_rf a ∧ w = va_rf b ∧ ztg pc off fun t => (a = b → k t ls r M) ∧ (¬ a = b → k (pc + 3) ls r M)
  | .if_acmp .ne off => zv2 st fun v w r => ∃ a b : Option Nat, v = va_rf a ∧ w = va_rf b ∧ ztg pc off fun t => (¬ a = b → k t ls r M) ∧ (a = b → k (pc + 3) ls r M)
  | .ifnull off => zv1 st fun v r => ztg pc off fun t => (v = .null ∧ k t ls r M) ∨ ((∃ a, v = .ref a) ∧ k (pc + 3) ls r M)
  | .ifnonnull off => zv1 st fun v r => ztg pc off fun t => (v = .null ∧ k (pc + 3) ls r M) ∨ ((∃ a, v = .ref a) ∧ k t ls r M)
  | .getfield i => zr1 st fun a r => zgf K M i a fun v => k (pc + 3) ls (v :: r) M
  | .putfield i => zrv st fun a v r => zpf K M i a v fun M2 => k (pc + 3) ls r M2
  | .arraylength => zr1 st fun a r => zaa M a fun c n => (∃ (t : Nat) (ty : FieldType), (ztys g)[t]? = some (c, ty)) ∧ k (pc + 1) ls (.int (Int32.ofNat n) :: r) M
  | .iaload => zri st fun a i r => zai (zA g 0) M a fun n f => vp_in i n ∧ k (pc + 1) ls (.int (f i.toNatClampNeg) :: r) M
  | .caload => zri st fun a i r => zai (zA g 3) M a fun n f => vp_in i n ∧ k (pc + 1) ls (.int (f i.toNatClampNeg) :: r) M
  | .baload => zri st fun a i r => zai (zA g 4) M a fun n f => vp_in i n ∧ k (pc + 1) ls (.int (f i.toNatClampNeg) :: r) M
  | .laload => zri st fun a i r => zal (zA g 1) M a fun n f => vp_in i n ∧ k (pc + 1) ls (.long (f i.toNatClampNeg) :: r) M
  | .daload => zri st fun a i r => zad (zA g 2) M a fun n f => vp_in i n ∧ k (pc + 1) ls (.double (f i.toNatClampNeg) :: r) M
  | .aaload => zri st fun a i r => zar M a fun c n f => zRt g c ∧ vp_in i n ∧ k (pc + 1) ls (va_rf (f i.toNatClampNeg) :: r) M
  | .iastore => zrii st fun a i x r => zai (zA g 0) M a fun n f => vp_in i n ∧ k (pc + 1) ls r (zup M a (.inl (zA g 0, n, .inl (upd f i.toNatClampNeg x))))
  | .castore => zrii st fun a i x r => zai (zA g 3) M a fun n f => vp_in i n ∧ k (pc + 1) ls r (zup M a (.inl (zA g 3, n, .inl (upd f i.toNatClampNeg (vp_nar .char x)))))
  | .bastore => zrii st fun a i x r => zai (zA g 4) M a fun n f => vp_in i n ∧ k (pc + 1) ls r (zup M a (.inl (zA g 4, n, .inl (upd f i.toNatClampNeg (vp_nar .byte x)))))
  | .lastore => zril st fun a i x r => zal (zA g 1) M a fun n f => vp_in i n ∧ k (pc + 1) ls r (zup M a (.inl (zA g 1, n, .inr (.inl (vp_updL f i.toNatClampNeg x)))))
  | .dastore => zrid st fun a i x r => zad (zA g 2) M a fun n f => vp_in i n ∧ k (pc + 1) ls r (zup M a (.inl (zA g 2, n, .inr (.inr (.inr (.inl (vf_upd f i.toNatClampNeg x)))))))
  | .ireturn => zi1 st fun x r => r = [] ∧ (∃ ty, zret K = some ty ∧ narrow ty (.int x) = .int x) ∧ Q.1 (some (.int x)) M
  | .freturn => zv1 st fun v r => ∃ x, v = .float x ∧ r = [] ∧ zret K = some .float ∧ Q.1 (some v) M
  | .dreturn => zv1 st fun v r => ∃ x, v = .double x ∧ r = [] ∧ zret K = some .double ∧ Q.1 (some v) M
  | .areturn => zv1 st fun v r => (v = .null ∨ ∃ a, v = .ref a) ∧ r = [] ∧ (∃ ty, zret K = some ty ∧ ((∃ n, ty = .object n) ∨ ∃ t, ty = .array t)) ∧ Q.1 (some v) M
  | .return_ => st = [] ∧ zret K = none ∧ Q.1 none M
  | _ => False
end ZST
theorem zI.get {g : ZG} {M : ZM} {H : Heap} {locs : List Loc} (h : zI g M H locs) {a : Nat} {e : va_E} (hm : M.1 a = some e) : va_at (zD g) zcl (a, e) H := by
  obtain ⟨⟨ws, hc, hP, hD⟩, -, -⟩ := h
  obtain ⟨k, hk⟩ := hc a e hm
  exact hP k _ hk
theorem zI.base {g : ZG} {M : ZM} {H : Heap} {locs : List Loc} (h : zI g M H locs) {a : Nat} {e : va_E} (hm : M.1 a = some e) : zF g a ∧ a < M.2 := by
  obtain ⟨⟨ws, hc, hP, hD⟩, h2, -⟩ := h
  obtain ⟨k, hk⟩ := hc a e hm
  exact ⟨hD.2 k _ hk, by rw [← h2]; exact (hP k _ hk).lt⟩
theorem zI.put {g : ZG} {M : ZM} {H H1 : Heap} {locs : List Loc} (h : zI g M H locs) {a k : Nat} {e0 e : va_E} (hm : M.1 a = some e0) (he : va_at (zD g) zcl (a, e) H1) (z : H1.size = H.size) (oq : ∀ q : Nat, q ≠ a → H1[q]? = H[q]?) : zI g (zup M a e) H1 (locs ++ [⟨a, k⟩]) := by
  have hb := (h.base hm).1
  obtain ⟨⟨ws, hc, hP, hD⟩, h2, hS⟩ := h
  obtain ⟨p, hp⟩ := hc a e0 hm
  have hl := (List.getElem?_eq_some_iff.mp hp).1
  refine ⟨⟨ws.set p (a, e), fun b e1 hb1 => ?_, hP.set hD hp he oq, hD.set hp⟩, by rw [z]; exact h2, hS.put z oq hb⟩
  unfold zup at hb1
  dsimp only at hb1
  by_cases hba : b = a
  · subst hba
    rw [if_pos rfl] at hb1
    cases hb1
    exact ⟨p, List.getElem?_set_self hl⟩
  · rw [if_neg hba] at hb1
    obtain ⟨j, hj⟩ := hc b e1 hb1
    refine ⟨j, ?_⟩
    rw [List.getElem?_set_ne]
    · exact hj
    · intro e2
      subst e2
      rw [hp] at hj
      cases hj
      exact hba rfl
section ZS
variable {g : ZG} {K : ZK} {Q : ZQ} {d cN sN pc : Nat} {M : ZM} {ls : List (Option Value)} {st : List Value} {k : Nat → List (Option Value) → List Value → ZM → Prop}
theorem zC.kk {p : Program} {l : Launch} {s : State} {m : MethodId} {args : Array Value} {meth : Method} {c : Code} (h : zC g K p l s m args meth c) : va_K (zD g) zcl (ztys g) s := by
  obtain ⟨-, -, -, -, -, -, -, hW, -, -, -, -, hV, -⟩ := h
  exact va_K.moved hW.alike hV.2.2.2.1
theorem zC.tbl {p : Program} {l : Launch} {s : State} {m : MethodId} {args : Array Value} {meth : Method} {c : Code} (h : zC g K p l s m args meth c) : ∀ w ∈ lw_tbl, w.before #[Value.ref (zb g)] (zs g) = true := by
  obtain ⟨-, -, -, -, -, -, -, hW, -, -, -, -, hV, -⟩ := h
  exact hV.1
theorem zcl_at {ci : Nat} (h : ci < zcl.length) : zcl[ci]? = some (zC0 ci, zT ci, zN ci) := by
  rw [List.getElem?_eq_getElem h]
  unfold zC0 zT zN
  rw [List.getD_eq_getElem?_getD, List.getElem?_eq_getElem h]
  rfl

theorem zs_iadd (hd : decode (zcc K) pc = .ok (.iadd, 1)) (h : zst g K Q (.iadd) 1 pc ls st M k) (hk : ∀ pc2 ls2 st2 M2, k pc2 ls2 st2 M2 → Z0 g K Q d cN sN M2 pc2 ls2 st2) : Z0 g K Q d cN sN M pc ls st := by
  simp only [zst] at h
  intro p l e R s m args below meth c H locs cells slots la hC hI hs hl hR
  obtain ⟨x, y, r, rfl, h⟩ := zi2_e h
  exact lv_iadd hC.1 hC.2.1 hd (hk _ _ _ _ h p l e R s m args below meth c H locs cells slots la hC hI hs hl hR)
theorem zs_isub (hd : decode (zcc K) pc = .ok (.isub, 1)) (h : zst g K Q (.isub) 1 pc ls st M k) (hk : ∀ pc2 ls2 st2 M2, k pc2 ls2 st2 M2 → Z0 g K Q d cN sN M2 pc2 ls2 st2) : Z0 g K Q d cN sN M pc ls st := by
  simp only [zst] at h
  intro p l e R s m args below meth c H locs cells slots la hC hI hs hl hR
  obtain ⟨x, y, r, rfl, h⟩ := zi2_e h
  exact lv_isub hC.1 hC.2.1 hd (hk _ _ _ _ h p l e R s m args below meth c H locs cells slots la hC hI hs hl hR)
theorem zs_imul (hd : decode (zcc K) pc = .ok (.imul, 1)) (h : zst g K Q (.imul) 1 pc ls st M k) (hk : ∀ pc2 ls2 st2 M2, k pc2 ls2 st2 M2 → Z0 g K Q d cN sN M2 pc2 ls2 st2) : Z0 g K Q d cN sN M pc ls st := by
  simp only [zst] at h
  intro p l e R s m args below meth c H locs cells slots la hC hI hs hl hR
  obtain ⟨x, y, r, rfl, h⟩ := zi2_e h
  exact lv_imul hC.1 hC.2.1 hd (hk _ _ _ _ h p l e R s m args below meth c H locs cells slots la hC hI hs hl hR)
theorem zs_idiv (hd : decode (zcc K) pc = .ok (.idiv, 1)) (h : zst g K Q (.idiv) 1 pc ls st M k) (hk : ∀ pc2 ls2 st2 M2, k pc2 ls2 st2 M2 → Z0 g K Q d cN sN M2 pc2 ls2 st2) : Z0 g K Q d cN sN M pc ls st := by
  simp only [zst] at h
  intro p l e R s m args below meth c H locs cells slots la hC hI hs hl hR
  obtain ⟨x, y, r, rfl, h⟩ := zi2_e h
  obtain ⟨hne, h⟩ := h
  exact lv_idiv hC.1 hC.2.1 hd hne (hk _ _ _ _ h p l e R s m args below meth c H locs cells slots la hC hI hs hl hR)
theorem zs_irem (hd : decode (zcc K) pc = .ok (.irem, 1)) (h : zst g K Q (.irem) 1 pc ls st M k) (hk : ∀ pc2 ls2 st2 M2, k pc2 ls2 st2 M2 → Z0 g K Q d cN sN M2 pc2 ls2 st2) : Z0 g K Q d cN sN M pc ls st := by
  simp only [zst] at h
  intro p l e R s m args below meth c H locs cells slots la hC hI hs hl hR
  obtain ⟨x, y, r, rfl, h⟩ := zi2_e h
  obtain ⟨hne, h⟩ := h
  exact lv_irem hC.1 hC.2.1 hd hne (hk _ _ _ _ h p l e R s m args below meth c H locs cells slots la hC hI hs hl hR)
theorem zs_iand (hd : decode (zcc K) pc = .ok (.iand, 1)) (h : zst g K Q (.iand) 1 pc ls st M k) (hk : ∀ pc2 ls2 st2 M2, k pc2 ls2 st2 M2 → Z0 g K Q d cN sN M2 pc2 ls2 st2) : Z0 g K Q d cN sN M pc ls st := by
  simp only [zst] at h
  intro p l e R s m args below meth c H locs cells slots la hC hI hs hl hR
  obtain ⟨x, y, r, rfl, h⟩ := zi2_e h
  exact lv_iand hC.1 hC.2.1 hd (hk _ _ _ _ h p l e R s m args below meth c H locs cells slots la hC hI hs hl hR)
theorem zs_ior (hd : decode (zcc K) pc = .ok (.ior, 1)) (h : zst g K Q (.ior) 1 pc ls st M k) (hk : ∀ pc2 ls2 st2 M2, k pc2 ls2 st2 M2 → Z0 g K Q d cN sN M2 pc2 ls2 st2) : Z0 g K Q d cN sN M pc ls st := by
  simp only [zst] at h
  intro p l e R s m args below meth c H locs cells slots la hC hI hs hl hR
  obtain ⟨x, y, r, rfl, h⟩ := zi2_e h
  exact lv_ior hC.1 hC.2.1 hd (hk _ _ _ _ h p l e R s m args below meth c H locs cells slots la hC hI hs hl hR)
theorem zs_ixor (hd : decode (zcc K) pc = .ok (.ixor, 1)) (h : zst g K Q (.ixor) 1 pc ls st M k) (hk : ∀ pc2 ls2 st2 M2, k pc2 ls2 st2 M2 → Z0 g K Q d cN sN M2 pc2 ls2 st2) : Z0 g K Q d cN sN M pc ls st := by
  simp only [zst] at h
  intro p l e R s m args below meth c H locs cells slots la hC hI hs hl hR
  obtain ⟨x, y, r, rfl, h⟩ := zi2_e h
  exact lv_ixor hC.1 hC.2.1 hd (hk _ _ _ _ h p l e R s m args below meth c H locs cells slots la hC hI hs hl hR)
theorem zs_ishl (hd : decode (zcc K) pc = .ok (.ishl, 1)) (h : zst g K Q (.ishl) 1 pc ls st M k) (hk : ∀ pc2 ls2 st2 M2, k pc2 ls2 st2 M2 → Z0 g K Q d cN sN M2 pc2 ls2 st2) : Z0 g K Q d cN sN M pc ls st := by
  simp only [zst] at h
  intro p l e R s m args below meth c H locs cells slots la hC hI hs hl hR
  obtain ⟨x, y, r, rfl, h⟩ := zi2_e h
  exact lv_ishl hC.1 hC.2.1 hd (hk _ _ _ _ h p l e R s m args below meth c H locs cells slots la hC hI hs hl hR)
theorem zs_ishr (hd : decode (zcc K) pc = .ok (.ishr, 1)) (h : zst g K Q (.ishr) 1 pc ls st M k) (hk : ∀ pc2 ls2 st2 M2, k pc2 ls2 st2 M2 → Z0 g K Q d cN sN M2 pc2 ls2 st2) : Z0 g K Q d cN sN M pc ls st := by
  simp only [zst] at h
  intro p l e R s m args below meth c H locs cells slots la hC hI hs hl hR
  obtain ⟨x, y, r, rfl, h⟩ := zi2_e h
  exact lv_ishr hC.1 hC.2.1 hd (hk _ _ _ _ h p l e R s m args below meth c H locs cells slots la hC hI hs hl hR)
theorem zs_iushr (hd : decode (zcc K) pc = .ok (.iushr, 1)) (h : zst g K Q (.iushr) 1 pc ls st M k) (hk : ∀ pc2 ls2 st2 M2, k pc2 ls2 st2 M2 → Z0 g K Q d cN sN M2 pc2 ls2 st2) : Z0 g K Q d cN sN M pc ls st := by
  simp only [zst] at h
  intro p l e R s m args below meth c H locs cells slots la hC hI hs hl hR
  obtain ⟨x, y, r, rfl, h⟩ := zi2_e h
  exact lv_iushr hC.1 hC.2.1 hd rfl (hk _ _ _ _ h p l e R s m args below meth c H locs cells slots la hC hI hs hl hR)
theorem zs_fdiv (hd : decode (zcc K) pc = .ok (.fdiv, 1)) (h : zst g K Q (.fdiv) 1 pc ls st M k) (hk : ∀ pc2 ls2 st2 M2, k pc2 ls2 st2 M2 → Z0 g K Q d cN sN M2 pc2 ls2 st2) : Z0 g K Q d cN sN M pc ls st := by
  simp only [zst] at h
  intro p l e R s m args below meth c H locs cells slots la hC hI hs hl hR
  obtain ⟨x, y, r, rfl, h⟩ := zf2_e h
  obtain ⟨hne, h⟩ := h
  exact lv_fdiv hC.1 hC.2.1 hd hne (hk _ _ _ _ h p l e R s m args below meth c H locs cells slots la hC hI hs hl hR)
theorem zs_ddiv (hd : decode (zcc K) pc = .ok (.ddiv, 1)) (h : zst g K Q (.ddiv) 1 pc ls st M k) (hk : ∀ pc2 ls2 st2 M2, k pc2 ls2 st2 M2 → Z0 g K Q d cN sN M2 pc2 ls2 st2) : Z0 g K Q d cN sN M pc ls st := by
  simp only [zst] at h
  intro p l e R s m args below meth c H locs cells slots la hC hI hs hl hR
  obtain ⟨x, y, r, rfl, h⟩ := zd2_e h
  obtain ⟨hne, h⟩ := h
  exact lv_ddiv hC.1 hC.2.1 hd hne (hk _ _ _ _ h p l e R s m args below meth c H locs cells slots la hC hI hs hl hR)
theorem zs_lcmp (hd : decode (zcc K) pc = .ok (.lcmp, 1)) (h : zst g K Q (.lcmp) 1 pc ls st M k) (hk : ∀ pc2 ls2 st2 M2, k pc2 ls2 st2 M2 → Z0 g K Q d cN sN M2 pc2 ls2 st2) : Z0 g K Q d cN sN M pc ls st := by
  simp only [zst] at h
  intro p l e R s m args below meth c H locs cells slots la hC hI hs hl hR
  obtain ⟨x, y, r, rfl, h⟩ := zl2_e h
  exact W.lcmp hC.1 hC.2.1 hd (hk _ _ _ _ h p l e R s m args below meth c H locs cells slots la hC hI hs hl hR)
theorem zs_fcmp {op : CmpOp} (hd : decode (zcc K) pc = .ok (.fcmp op, 1)) (h : zst g K Q (.fcmp op) 1 pc ls st M k) (hk : ∀ pc2 ls2 st2 M2, k pc2 ls2 st2 M2 → Z0 g K Q d cN sN M2 pc2 ls2 st2) : Z0 g K Q d cN sN M pc ls st := by
  simp only [zst] at h
  intro p l e R s m args below meth c H locs cells slots la hC hI hs hl hR
  obtain ⟨x, y, r, rfl, h⟩ := zf2_e h
  exact lv_fcmp hC.1 hC.2.1 hd (hk _ _ _ _ h p l e R s m args below meth c H locs cells slots la hC hI hs hl hR)
theorem zs_dcmp {op : CmpOp} (hd : decode (zcc K) pc = .ok (.dcmp op, 1)) (h : zst g K Q (.dcmp op) 1 pc ls st M k) (hk : ∀ pc2 ls2 st2 M2, k pc2 ls2 st2 M2 → Z0 g K Q d cN sN M2 pc2 ls2 st2) : Z0 g K Q d cN sN M pc ls st := by
  simp only [zst] at h
  intro p l e R s m args below meth c H locs cells slots la hC hI hs hl hR
  obtain ⟨x, y, r, rfl, h⟩ := zd2_e h
  exact lv_dcmp hC.1 hC.2.1 hd (hk _ _ _ _ h p l e R s m args below meth c H locs cells slots la hC hI hs hl hR)
theorem zs_ineg (hd : decode (zcc K) pc = .ok (.ineg, 1)) (h : zst g K Q (.ineg) 1 pc ls st M k) (hk : ∀ pc2 ls2 st2 M2, k pc2 ls2 st2 M2 → Z0 g K Q d cN sN M2 pc2 ls2 st2) : Z0 g K Q d cN sN M pc ls st := by
  simp only [zst] at h
  intro p l e R s m args below meth c H locs cells slots la hC hI hs hl hR
  obtain ⟨x, r, rfl, h⟩ := zi1_e h
  exact lv_ineg hC.1 hC.2.1 hd (hk _ _ _ _ h p l e R s m args below meth c H locs cells slots la hC hI hs hl hR)
theorem zs_i2l (hd : decode (zcc K) pc = .ok (.i2l, 1)) (h : zst g K Q (.i2l) 1 pc ls st M k) (hk : ∀ pc2 ls2 st2 M2, k pc2 ls2 st2 M2 → Z0 g K Q d cN sN M2 pc2 ls2 st2) : Z0 g K Q d cN sN M pc ls st := by
  simp only [zst] at h
  intro p l e R s m args below meth c H locs cells slots la hC hI hs hl hR
  obtain ⟨x, r, rfl, h⟩ := zi1_e h
  exact lv_i2l hC.1 hC.2.1 hd rfl (hk _ _ _ _ h p l e R s m args below meth c H locs cells slots la hC hI hs hl hR)
theorem zs_i2c (hd : decode (zcc K) pc = .ok (.i2c, 1)) (h : zst g K Q (.i2c) 1 pc ls st M k) (hk : ∀ pc2 ls2 st2 M2, k pc2 ls2 st2 M2 → Z0 g K Q d cN sN M2 pc2 ls2 st2) : Z0 g K Q d cN sN M pc ls st := by
  simp only [zst] at h
  intro p l e R s m args below meth c H locs cells slots la hC hI hs hl hR
  obtain ⟨x, r, rfl, h⟩ := zi1_e h
  exact lv_i2c hC.1 hC.2.1 hd rfl (hk _ _ _ _ h p l e R s m args below meth c H locs cells slots la hC hI hs hl hR)
theorem zs_i2b (hd : decode (zcc K) pc = .ok (.i2b, 1)) (h : zst g K Q (.i2b) 1 pc ls st M k) (hk : ∀ pc2 ls2 st2 M2, k pc2 ls2 st2 M2 → Z0 g K Q d cN sN M2 pc2 ls2 st2) : Z0 g K Q d cN sN M pc ls st := by
  simp only [zst] at h
  intro p l e R s m args below meth c H locs cells slots la hC hI hs hl hR
  obtain ⟨x, r, rfl, h⟩ := zi1_e h
  exact lv_i2b hC.1 hC.2.1 hd rfl (hk _ _ _ _ h p l e R s m args below meth c H locs cells slots la hC hI hs hl hR)
theorem zs_i2f (hd : decode (zcc K) pc = .ok (.i2f, 1)) (h : zst g K Q (.i2f) 1 pc ls st M k) (hk : ∀ pc2 ls2 st2 M2, k pc2 ls2 st2 M2 → Z0 g K Q d cN sN M2 pc2 ls2 st2) : Z0 g K Q d cN sN M pc ls st := by
  simp only [zst] at h
  intro p l e R s m args below meth c H locs cells slots la hC hI hs hl hR
  obtain ⟨x, r, rfl, h⟩ := zi1_e h
  exact lv_i2f hC.1 hC.2.1 hd (hk _ _ _ _ h p l e R s m args below meth c H locs cells slots la hC hI hs hl hR)
theorem zs_i2d (hd : decode (zcc K) pc = .ok (.i2d, 1)) (h : zst g K Q (.i2d) 1 pc ls st M k) (hk : ∀ pc2 ls2 st2 M2, k pc2 ls2 st2 M2 → Z0 g K Q d cN sN M2 pc2 ls2 st2) : Z0 g K Q d cN sN M pc ls st := by
  simp only [zst] at h
  intro p l e R s m args below meth c H locs cells slots la hC hI hs hl hR
  obtain ⟨x, r, rfl, h⟩ := zi1_e h
  exact lv_i2d hC.1 hC.2.1 hd (hk _ _ _ _ h p l e R s m args below meth c H locs cells slots la hC hI hs hl hR)
theorem zs_f2d (hd : decode (zcc K) pc = .ok (.f2d, 1)) (h : zst g K Q (.f2d) 1 pc ls st M k) (hk : ∀ pc2 ls2 st2 M2, k pc2 ls2 st2 M2 → Z0 g K Q d cN sN M2 pc2 ls2 st2) : Z0 g K Q d cN sN M pc ls st := by
  simp only [zst] at h
  intro p l e R s m args below meth c H locs cells slots la hC hI hs hl hR
  obtain ⟨v, r, rfl, x, rfl, hne, h⟩ := zv1_e h
  exact lv_f2d hC.1 hC.2.1 hd hne (hk _ _ _ _ h p l e R s m args below meth c H locs cells slots la hC hI hs hl hR)
theorem zs_aload_n {n : Fin 4} (hd : decode (zcc K) pc = .ok (.aload_n n, 1)) (h : zst g K Q (.aload_n n) 1 pc ls st M k) (hk : ∀ pc2 ls2 st2 M2, k pc2 ls2 st2 M2 → Z0 g K Q d cN sN M2 pc2 ls2 st2) : Z0 g K Q d cN sN M pc ls st := by
  simp only [zst] at h
  intro p l e R s m args below meth c H locs cells slots la hC hI hs hl hR
  obtain ⟨v, hv, hr, h⟩ := zld_e h
  rcases hr with rfl | ⟨a, rfl⟩
  · exact lv_aload_nN hC.1 hC.2.1 hd rfl (hl.at hv) (hk _ _ _ _ h p l e R s m args below meth c H locs cells slots la hC hI hs hl hR)
  · exact lv_aload_n hC.1 hC.2.1 hd rfl (hl.at hv) (hk _ _ _ _ h p l e R s m args below meth c H locs cells slots la hC hI hs hl hR)
theorem zs_aload {n : Nat} (hd : decode (zcc K) pc = .ok (.aload n, 2)) (h : zst g K Q (.aload n) 2 pc ls st M k) (hk : ∀ pc2 ls2 st2 M2, k pc2 ls2 st2 M2 → Z0 g K Q d cN sN M2 pc2 ls2 st2) : Z0 g K Q d cN sN M pc ls st := by
  simp only [zst] at h
  intro p l e R s m args below meth c H locs cells slots la hC hI hs hl hR
  obtain ⟨v, hv, hr, h⟩ := zld_e h
  rcases hr with rfl | ⟨a, rfl⟩
  · exact lv_aloadN hC.1 hC.2.1 hd (hl.at hv) (hk _ _ _ _ h p l e R s m args below meth c H locs cells slots la hC hI hs hl hR)
  · exact lv_aload hC.1 hC.2.1 hd (hl.at hv) (hk _ _ _ _ h p l e R s m args below meth c H locs cells slots la hC hI hs hl hR)
theorem zs_iload_n {n : Fin 4} (hd : decode (zcc K) pc = .ok (.iload_n n, 1)) (h : zst g K Q (.iload_n n) 1 pc ls st M k) (hk : ∀ pc2 ls2 st2 M2, k pc2 ls2 st2 M2 → Z0 g K Q d cN sN M2 pc2 ls2 st2) : Z0 g K Q d cN sN M pc ls st := by
  simp only [zst] at h
  intro p l e R s m args below meth c H locs cells slots la hC hI hs hl hR
  obtain ⟨v, hv, ⟨x, rfl⟩, h⟩ := zld_e h
  exact lv_iload_n hC.1 hC.2.1 hd rfl (hl.at hv) (hk _ _ _ _ h p l e R s m args below meth c H locs cells slots la hC hI hs hl hR)
theorem zs_iload {n : Nat} (hd : decode (zcc K) pc = .ok (.iload n, 2)) (h : zst g K Q (.iload n) 2 pc ls st M k) (hk : ∀ pc2 ls2 st2 M2, k pc2 ls2 st2 M2 → Z0 g K Q d cN sN M2 pc2 ls2 st2) : Z0 g K Q d cN sN M pc ls st := by
  simp only [zst] at h
  intro p l e R s m args below meth c H locs cells slots la hC hI hs hl hR
  obtain ⟨v, hv, ⟨x, rfl⟩, h⟩ := zld_e h
  exact lv_iload hC.1 hC.2.1 hd (hl.at hv) (hk _ _ _ _ h p l e R s m args below meth c H locs cells slots la hC hI hs hl hR)
theorem zs_fload {n : Nat} (hd : decode (zcc K) pc = .ok (.fload n, 2)) (h : zst g K Q (.fload n) 2 pc ls st M k) (hk : ∀ pc2 ls2 st2 M2, k pc2 ls2 st2 M2 → Z0 g K Q d cN sN M2 pc2 ls2 st2) : Z0 g K Q d cN sN M pc ls st := by
  simp only [zst] at h
  intro p l e R s m args below meth c H locs cells slots la hC hI hs hl hR
  obtain ⟨v, hv, ⟨x, rfl⟩, h⟩ := zld_e h
  exact lv_fload hC.1 hC.2.1 hd (hl.at hv) (hk _ _ _ _ h p l e R s m args below meth c H locs cells slots la hC hI hs hl hR)
theorem zs_istore_n {n : Fin 4} (hd : decode (zcc K) pc = .ok (.istore_n n, 1)) (h : zst g K Q (.istore_n n) 1 pc ls st M k) (hk : ∀ pc2 ls2 st2 M2, k pc2 ls2 st2 M2 → Z0 g K Q d cN sN M2 pc2 ls2 st2) : Z0 g K Q d cN sN M pc ls st := by
  simp only [zst] at h
  intro p l e R s m args below meth c H locs cells slots la hC hI hs hl hR
  obtain ⟨x, r, rfl, hn, h⟩ := zi1_e h
  exact lv_istore_n hC.1 hC.2.1 hd rfl hl.1 hn rfl (fun la2 hl2 => hk _ _ _ _ h p l e R s m args below meth c H locs cells slots la2 hC hI hs (zset_ok hl rfl hl2) hR)
theorem zs_istore {n : Nat} (hd : decode (zcc K) pc = .ok (.istore n, 2)) (h : zst g K Q (.istore n) 2 pc ls st M k) (hk : ∀ pc2 ls2 st2 M2, k pc2 ls2 st2 M2 → Z0 g K Q d cN sN M2 pc2 ls2 st2) : Z0 g K Q d cN sN M pc ls st := by
  simp only [zst] at h
  intro p l e R s m args below meth c H locs cells slots la hC hI hs hl hR
  obtain ⟨x, r, rfl, hn, h⟩ := zi1_e h
  exact lv_istore hC.1 hC.2.1 hd hl.1 hn rfl (fun la2 hl2 => hk _ _ _ _ h p l e R s m args below meth c H locs cells slots la2 hC hI hs (zset_ok hl rfl hl2) hR)
theorem zs_astore_n {n : Fin 4} (hd : decode (zcc K) pc = .ok (.astore_n n, 1)) (h : zst g K Q (.astore_n n) 1 pc ls st M k) (hk : ∀ pc2 ls2 st2 M2, k pc2 ls2 st2 M2 → Z0 g K Q d cN sN M2 pc2 ls2 st2) : Z0 g K Q d cN sN M pc ls st := by
  simp only [zst] at h
  intro p l e R s m args below meth c H locs cells slots la hC hI hs hl hR
  obtain ⟨v, r, rfl, hv, hn, h⟩ := zv1_e h
  rcases hv with rfl | ⟨a, rfl⟩
  · exact lv_astore_nN hC.1 hC.2.1 hd rfl hl.1 hn rfl (fun la2 hl2 => hk _ _ _ _ h p l e R s m args below meth c H locs cells slots la2 hC hI hs (zset_ok hl rfl hl2) hR)
  · exact lv_astore_n hC.1 hC.2.1 hd rfl hl.1 hn rfl (fun la2 hl2 => hk _ _ _ _ h p l e R s m args below meth c H locs cells slots la2 hC hI hs (zset_ok hl rfl hl2) hR)
theorem zs_astore {n : Nat} (hd : decode (zcc K) pc = .ok (.astore n, 2)) (h : zst g K Q (.astore n) 2 pc ls st M k) (hk : ∀ pc2 ls2 st2 M2, k pc2 ls2 st2 M2 → Z0 g K Q d cN sN M2 pc2 ls2 st2) : Z0 g K Q d cN sN M pc ls st := by
  simp only [zst] at h
  intro p l e R s m args below meth c H locs cells slots la hC hI hs hl hR
  obtain ⟨v, r, rfl, hv, hn, h⟩ := zv1_e h
  rcases hv with rfl | ⟨a, rfl⟩
  · exact lv_astoreN hC.1 hC.2.1 hd hl.1 hn rfl (fun la2 hl2 => hk _ _ _ _ h p l e R s m args below meth c H locs cells slots la2 hC hI hs (zset_ok hl rfl hl2) hR)
  · exact lv_astore hC.1 hC.2.1 hd hl.1 hn rfl (fun la2 hl2 => hk _ _ _ _ h p l e R s m args below meth c H locs cells slots la2 hC hI hs (zset_ok hl rfl hl2) hR)
theorem zs_fstore {n : Nat} (hd : decode (zcc K) pc = .ok (.fstore n, 2)) (h : zst g K Q (.fstore n) 2 pc ls st M k) (hk : ∀ pc2 ls2 st2 M2, k pc2 ls2 st2 M2 → Z0 g K Q d cN sN M2 pc2 ls2 st2) : Z0 g K Q d cN sN M pc ls st := by
  simp only [zst] at h
  intro p l e R s m args below meth c H locs cells slots la hC hI hs hl hR
  obtain ⟨v, r, rfl, ⟨x, rfl⟩, hn, h⟩ := zv1_e h
  exact lv_fstore hC.1 hC.2.1 hd hl.1 hn rfl (fun la2 hl2 => hk _ _ _ _ h p l e R s m args below meth c H locs cells slots la2 hC hI hs (zset_ok hl rfl hl2) hR)
theorem zs_iinc {n : Nat} {i : Int} (hd : decode (zcc K) pc = .ok (.iinc n i, 3)) (h : zst g K Q (.iinc n i) 3 pc ls st M k) (hk : ∀ pc2 ls2 st2 M2, k pc2 ls2 st2 M2 → Z0 g K Q d cN sN M2 pc2 ls2 st2) : Z0 g K Q d cN sN M pc ls st := by
  simp only [zst] at h
  intro p l e R s m args below meth c H locs cells slots la hC hI hs hl hR
  obtain ⟨v, hv, x, rfl, hn, h⟩ := zld_e h
  obtain ⟨j, hj⟩ := List.getElem?_of_mem ((zPr_mem ls 0 n (.int x)).mpr ⟨Nat.zero_le _, hv⟩)
  exact lv_iinc hC.1 hC.2.1 hd hl.1 hj rfl hn rfl (fun la2 hl2 => hk _ _ _ _ h p l e R s m args below meth c H locs cells slots la2 hC hI hs (zset_ok hl rfl hl2) hR)
theorem zs_null (hd : decode (zcc K) pc = .ok (.aconst_null, 1)) (h : zst g K Q (.aconst_null) 1 pc ls st M k) (hk : ∀ pc2 ls2 st2 M2, k pc2 ls2 st2 M2 → Z0 g K Q d cN sN M2 pc2 ls2 st2) : Z0 g K Q d cN sN M pc ls st := by
  simp only [zst] at h
  intro p l e R s m args below meth c H locs cells slots la hC hI hs hl hR
  exact lv_null hC.1 hC.2.1 hd (hk _ _ _ _ h p l e R s m args below meth c H locs cells slots la hC hI hs hl hR)
theorem zs_iconst {n : Int} (hd : decode (zcc K) pc = .ok (.iconst n, 1)) (h : zst g K Q (.iconst n) 1 pc ls st M k) (hk : ∀ pc2 ls2 st2 M2, k pc2 ls2 st2 M2 → Z0 g K Q d cN sN M2 pc2 ls2 st2) : Z0 g K Q d cN sN M pc ls st := by
  simp only [zst] at h
  intro p l e R s m args below meth c H locs cells slots la hC hI hs hl hR
  exact lv_iconst hC.1 hC.2.1 hd rfl (hk _ _ _ _ h p l e R s m args below meth c H locs cells slots la hC hI hs hl hR)
theorem zs_bipush {n : Int} (hd : decode (zcc K) pc = .ok (.bipush n, 2)) (h : zst g K Q (.bipush n) 2 pc ls st M k) (hk : ∀ pc2 ls2 st2 M2, k pc2 ls2 st2 M2 → Z0 g K Q d cN sN M2 pc2 ls2 st2) : Z0 g K Q d cN sN M pc ls st := by
  simp only [zst] at h
  intro p l e R s m args below meth c H locs cells slots la hC hI hs hl hR
  exact lv_bipush hC.1 hC.2.1 hd rfl (hk _ _ _ _ h p l e R s m args below meth c H locs cells slots la hC hI hs hl hR)
theorem zs_sipush {n : Int} (hd : decode (zcc K) pc = .ok (.sipush n, 3)) (h : zst g K Q (.sipush n) 3 pc ls st M k) (hk : ∀ pc2 ls2 st2 M2, k pc2 ls2 st2 M2 → Z0 g K Q d cN sN M2 pc2 ls2 st2) : Z0 g K Q d cN sN M pc ls st := by
  simp only [zst] at h
  intro p l e R s m args below meth c H locs cells slots la hC hI hs hl hR
  exact lv_sipush hC.1 hC.2.1 hd rfl (hk _ _ _ _ h p l e R s m args below meth c H locs cells slots la hC hI hs hl hR)
theorem zs_lconst {n : Fin 2} (hd : decode (zcc K) pc = .ok (.lconst n, 1)) (h : zst g K Q (.lconst n) 1 pc ls st M k) (hk : ∀ pc2 ls2 st2 M2, k pc2 ls2 st2 M2 → Z0 g K Q d cN sN M2 pc2 ls2 st2) : Z0 g K Q d cN sN M pc ls st := by
  simp only [zst] at h
  intro p l e R s m args below meth c H locs cells slots la hC hI hs hl hR
  exact lv_lconst hC.1 hC.2.1 hd rfl (hk _ _ _ _ h p l e R s m args below meth c H locs cells slots la hC hI hs hl hR)
theorem zs_fconst (hd : decode (zcc K) pc = .ok (.fconst 0, 1)) (h : zst g K Q (.fconst 0) 1 pc ls st M k) (hk : ∀ pc2 ls2 st2 M2, k pc2 ls2 st2 M2 → Z0 g K Q d cN sN M2 pc2 ls2 st2) : Z0 g K Q d cN sN M pc ls st := by
  simp only [zst] at h
  intro p l e R s m args below meth c H locs cells slots la hC hI hs hl hR
  exact lv_fconst0 hC.1 hC.2.1 hd (hk _ _ _ _ h p l e R s m args below meth c H locs cells slots la hC hI hs hl hR)
theorem zs_dconst (hd : decode (zcc K) pc = .ok (.dconst 0, 1)) (h : zst g K Q (.dconst 0) 1 pc ls st M k) (hk : ∀ pc2 ls2 st2 M2, k pc2 ls2 st2 M2 → Z0 g K Q d cN sN M2 pc2 ls2 st2) : Z0 g K Q d cN sN M pc ls st := by
  simp only [zst] at h
  intro p l e R s m args below meth c H locs cells slots la hC hI hs hl hR
  exact lv_dconst0 hC.1 hC.2.1 hd (hk _ _ _ _ h p l e R s m args below meth c H locs cells slots la hC hI hs hl hR)
theorem zs_pop (hd : decode (zcc K) pc = .ok (.pop, 1)) (h : zst g K Q (.pop) 1 pc ls st M k) (hk : ∀ pc2 ls2 st2 M2, k pc2 ls2 st2 M2 → Z0 g K Q d cN sN M2 pc2 ls2 st2) : Z0 g K Q d cN sN M pc ls st := by
  simp only [zst] at h
  intro p l e R s m args below meth c H locs cells slots la hC hI hs hl hR
  obtain ⟨v, r, rfl, hv, h⟩ := zv1_e h
  exact lv_pop hC.1 hC.2.1 hd hv (hk _ _ _ _ h p l e R s m args below meth c H locs cells slots la hC hI hs hl hR)
theorem zs_dup (hd : decode (zcc K) pc = .ok (.dup, 1)) (h : zst g K Q (.dup) 1 pc ls st M k) (hk : ∀ pc2 ls2 st2 M2, k pc2 ls2 st2 M2 → Z0 g K Q d cN sN M2 pc2 ls2 st2) : Z0 g K Q d cN sN M pc ls st := by
  simp only [zst] at h
  intro p l e R s m args below meth c H locs cells slots la hC hI hs hl hR
  obtain ⟨v, r, rfl, hv, h⟩ := zv1_e h
  exact lv_dup hC.1 hC.2.1 hd hv (hk _ _ _ _ h p l e R s m args below meth c H locs cells slots la hC hI hs hl hR)
theorem zs_dup_x1 (hd : decode (zcc K) pc = .ok (.dup_x1, 1)) (h : zst g K Q (.dup_x1) 1 pc ls st M k) (hk : ∀ pc2 ls2 st2 M2, k pc2 ls2 st2 M2 → Z0 g K Q d cN sN M2 pc2 ls2 st2) : Z0 g K Q d cN sN M pc ls st := by
  simp only [zst] at h
  intro p l e R s m args below meth c H locs cells slots la hC hI hs hl hR
  obtain ⟨v, w, r, rfl, hv, hw, h⟩ := zv2_e h
  exact lv_dup_x1 hC.1 hC.2.1 hd hw hv (hk _ _ _ _ h p l e R s m args below meth c H locs cells slots la hC hI hs hl hR)
theorem zs_dup2 (hd : decode (zcc K) pc = .ok (.dup2, 1)) (h : zst g K Q (.dup2) 1 pc ls st M k) (hk : ∀ pc2 ls2 st2 M2, k pc2 ls2 st2 M2 → Z0 g K Q d cN sN M2 pc2 ls2 st2) : Z0 g K Q d cN sN M pc ls st := by
  simp only [zst] at h
  intro p l e R s m args below meth c H locs cells slots la hC hI hs hl hR
  obtain ⟨v, w, r, rfl, hv, hw, h⟩ := zv2_e h
  exact lv_dup2_11 hC.1 hC.2.1 hd hw hv (hk _ _ _ _ h p l e R s m args below meth c H locs cells slots la hC hI hs hl hR)
theorem ztg_tgt {pc : Nat} {off : Int} (h : 0 ≤ (pc : Int) + off) : (pc : Int) + off = (((pc : Int) + off).toNat : Int) := (Int.toNat_of_nonneg h).symm

theorem zs_icmp_eq {off : Int} (hd : decode (zcc K) pc = .ok (.if_icmp .eq off, 3)) (h : zst g K Q (.if_icmp .eq off) 3 pc ls st M k) (hk : ∀ pc2 ls2 st2 M2, k pc2 ls2 st2 M2 → Z0 g K Q d cN sN M2 pc2 ls2 st2) : Z0 g K Q d cN sN M pc ls st := by
  simp only [zst] at h
  intro p l e R s m args below meth c H locs cells slots la hC hI hs hl hR
  obtain ⟨x, y, r, rfl, hz, h1, h2⟩ := zi2_e h
  exact lv_icmp_eq hC.1 hC.2.1 hd (ztg_tgt hz) (fun hc => hk _ _ _ _ (h1 hc) p l e R s m args below meth c H locs cells slots la hC hI hs hl hR) (fun hc => hk _ _ _ _ (h2 hc) p l e R s m args below meth c H locs cells slots la hC hI hs hl hR)
theorem zs_if_eq {off : Int} (hd : decode (zcc K) pc = .ok (.ifCond .eq off, 3)) (h : zst g K Q (.ifCond .eq off) 3 pc ls st M k) (hk : ∀ pc2 ls2 st2 M2, k pc2 ls2 st2 M2 → Z0 g K Q d cN sN M2 pc2 ls2 st2) : Z0 g K Q d cN sN M pc ls st := by
  simp only [zst] at h
  intro p l e R s m args below meth c H locs cells slots la hC hI hs hl hR
  obtain ⟨x, r, rfl, hz, h1, h2⟩ := zi1_e h
  exact lv_if_eq hC.1 hC.2.1 hd (ztg_tgt hz) (fun hc => hk _ _ _ _ (h1 hc) p l e R s m args below meth c H locs cells slots la hC hI hs hl hR) (fun hc => hk _ _ _ _ (h2 hc) p l e R s m args below meth c H locs cells slots la hC hI hs hl hR)
theorem zs_icmp_ne {off : Int} (hd : decode (zcc K) pc = .ok (.if_icmp .ne off, 3)) (h : zst g K Q (.if_icmp .ne off) 3 pc ls st M k) (hk : ∀ pc2 ls2 st2 M2, k pc2 ls2 st2 M2 → Z0 g K Q d cN sN M2 pc2 ls2 st2) : Z0 g K Q d cN sN M pc ls st := by
  simp only [zst] at h
  intro p l e R s m args below meth c H locs cells slots la hC hI hs hl hR
  obtain ⟨x, y, r, rfl, hz, h1, h2⟩ := zi2_e h
  exact lv_icmp_ne hC.1 hC.2.1 hd (ztg_tgt hz) (fun hc => hk _ _ _ _ (h1 hc) p l e R s m args below meth c H locs cells slots la hC hI hs hl hR) (fun hc => hk _ _ _ _ (h2 hc) p l e R s m args below meth c H locs cells slots la hC hI hs hl hR)
theorem zs_if_ne {off : Int} (hd : decode (zcc K) pc = .ok (.ifCond .ne off, 3)) (h : zst g K Q (.ifCond .ne off) 3 pc ls st M k) (hk : ∀ pc2 ls2 st2 M2, k pc2 ls2 st2 M2 → Z0 g K Q d cN sN M2 pc2 ls2 st2) : Z0 g K Q d cN sN M pc ls st := by
  simp only [zst] at h
  intro p l e R s m args below meth c H locs cells slots la hC hI hs hl hR
  obtain ⟨x, r, rfl, hz, h1, h2⟩ := zi1_e h
  exact lv_if_ne hC.1 hC.2.1 hd (ztg_tgt hz) (fun hc => hk _ _ _ _ (h1 hc) p l e R s m args below meth c H locs cells slots la hC hI hs hl hR) (fun hc => hk _ _ _ _ (h2 hc) p l e R s m args below meth c H locs cells slots la hC hI hs hl hR)
theorem zs_icmp_lt {off : Int} (hd : decode (zcc K) pc = .ok (.if_icmp .lt off, 3)) (h : zst g K Q (.if_icmp .lt off) 3 pc ls st M k) (hk : ∀ pc2 ls2 st2 M2, k pc2 ls2 st2 M2 → Z0 g K Q d cN sN M2 pc2 ls2 st2) : Z0 g K Q d cN sN M pc ls st := by
  simp only [zst] at h
  intro p l e R s m args below meth c H locs cells slots la hC hI hs hl hR
  obtain ⟨x, y, r, rfl, hz, h1, h2⟩ := zi2_e h
  exact lv_icmp_lt hC.1 hC.2.1 hd (ztg_tgt hz) (fun hc => hk _ _ _ _ (h1 hc) p l e R s m args below meth c H locs cells slots la hC hI hs hl hR) (fun hc => hk _ _ _ _ (h2 hc) p l e R s m args below meth c H locs cells slots la hC hI hs hl hR)
theorem zs_if_lt {off : Int} (hd : decode (zcc K) pc = .ok (.ifCond .lt off, 3)) (h : zst g K Q (.ifCond .lt off) 3 pc ls st M k) (hk : ∀ pc2 ls2 st2 M2, k pc2 ls2 st2 M2 → Z0 g K Q d cN sN M2 pc2 ls2 st2) : Z0 g K Q d cN sN M pc ls st := by
  simp only [zst] at h
  intro p l e R s m args below meth c H locs cells slots la hC hI hs hl hR
  obtain ⟨x, r, rfl, hz, h1, h2⟩ := zi1_e h
  exact lv_if_lt hC.1 hC.2.1 hd (ztg_tgt hz) (fun hc => hk _ _ _ _ (h1 hc) p l e R s m args below meth c H locs cells slots la hC hI hs hl hR) (fun hc => hk _ _ _ _ (h2 hc) p l e R s m args below meth c H locs cells slots la hC hI hs hl hR)
theorem zs_icmp_ge {off : Int} (hd : decode (zcc K) pc = .ok (.if_icmp .ge off, 3)) (h : zst g K Q (.if_icmp .ge off) 3 pc ls st M k) (hk : ∀ pc2 ls2 st2 M2, k pc2 ls2 st2 M2 → Z0 g K Q d cN sN M2 pc2 ls2 st2) : Z0 g K Q d cN sN M pc ls st := by
  simp only [zst] at h
  intro p l e R s m args below meth c H locs cells slots la hC hI hs hl hR
  obtain ⟨x, y, r, rfl, hz, h1, h2⟩ := zi2_e h
  exact lv_icmp_ge hC.1 hC.2.1 hd (ztg_tgt hz) (fun hc => hk _ _ _ _ (h1 hc) p l e R s m args below meth c H locs cells slots la hC hI hs hl hR) (fun hc => hk _ _ _ _ (h2 hc) p l e R s m args below meth c H locs cells slots la hC hI hs hl hR)
theorem zs_if_ge {off : Int} (hd : decode (zcc K) pc = .ok (.ifCond .ge off, 3)) (h : zst g K Q (.ifCond .ge off) 3 pc ls st M k) (hk : ∀ pc2 ls2 st2 M2, k pc2 ls2 st2 M2 → Z0 g K Q d cN sN M2 pc2 ls2 st2) : Z0 g K Q d cN sN M pc ls st := by
  simp only [zst] at h
  intro p l e R s m args below meth c H locs cells slots la hC hI hs hl hR
  obtain ⟨x, r, rfl, hz, h1, h2⟩ := zi1_e h
  exact lv_if_ge hC.1 hC.2.1 hd (ztg_tgt hz) (fun hc => hk _ _ _ _ (h1 hc) p l e R s m args below meth c H locs cells slots la hC hI hs hl hR) (fun hc => hk _ _ _ _ (h2 hc) p l e R s m args below meth c H locs cells slots la hC hI hs hl hR)
theorem zs_icmp_gt {off : Int} (hd : decode (zcc K) pc = .ok (.if_icmp .gt off, 3)) (h : zst g K Q (.if_icmp .gt off) 3 pc ls st M k) (hk : ∀ pc2 ls2 st2 M2, k pc2 ls2 st2 M2 → Z0 g K Q d cN sN M2 pc2 ls2 st2) : Z0 g K Q d cN sN M pc ls st := by
  simp only [zst] at h
  intro p l e R s m args below meth c H locs cells slots la hC hI hs hl hR
  obtain ⟨x, y, r, rfl, hz, h1, h2⟩ := zi2_e h
  exact lv_icmp_gt hC.1 hC.2.1 hd (ztg_tgt hz) (fun hc => hk _ _ _ _ (h1 hc) p l e R s m args below meth c H locs cells slots la hC hI hs hl hR) (fun hc => hk _ _ _ _ (h2 hc) p l e R s m args below meth c H locs cells slots la hC hI hs hl hR)
theorem zs_if_gt {off : Int} (hd : decode (zcc K) pc = .ok (.ifCond .gt off, 3)) (h : zst g K Q (.ifCond .gt off) 3 pc ls st M k) (hk : ∀ pc2 ls2 st2 M2, k pc2 ls2 st2 M2 → Z0 g K Q d cN sN M2 pc2 ls2 st2) : Z0 g K Q d cN sN M pc ls st := by
  simp only [zst] at h
  intro p l e R s m args below meth c H locs cells slots la hC hI hs hl hR
  obtain ⟨x, r, rfl, hz, h1, h2⟩ := zi1_e h
  exact lv_if_gt hC.1 hC.2.1 hd (ztg_tgt hz) (fun hc => hk _ _ _ _ (h1 hc) p l e R s m args below meth c H locs cells slots la hC hI hs hl hR) (fun hc => hk _ _ _ _ (h2 hc) p l e R s m args below meth c H locs cells slots la hC hI hs hl hR)
theorem zs_icmp_le {off : Int} (hd : decode (zcc K) pc = .ok (.if_icmp .le off, 3)) (h : zst g K Q (.if_icmp .le off) 3 pc ls st M k) (hk : ∀ pc2 ls2 st2 M2, k pc2 ls2 st2 M2 → Z0 g K Q d cN sN M2 pc2 ls2 st2) : Z0 g K Q d cN sN M pc ls st := by
  simp only [zst] at h
  intro p l e R s m args below meth c H locs cells slots la hC hI hs hl hR
  obtain ⟨x, y, r, rfl, hz, h1, h2⟩ := zi2_e h
  exact lv_icmp_le hC.1 hC.2.1 hd (ztg_tgt hz) (fun hc => hk _ _ _ _ (h1 hc) p l e R s m args below meth c H locs cells slots la hC hI hs hl hR) (fun hc => hk _ _ _ _ (h2 hc) p l e R s m args below meth c H locs cells slots la hC hI hs hl hR)
theorem zs_if_le {off : Int} (hd : decode (zcc K) pc = .ok (.ifCond .le off, 3)) (h : zst g K Q (.ifCond .le off) 3 pc ls st M k) (hk : ∀ pc2 ls2 st2 M2, k pc2 ls2 st2 M2 → Z0 g K Q d cN sN M2 pc2 ls2 st2) : Z0 g K Q d cN sN M pc ls st := by
  simp only [zst] at h
  intro p l e R s m args below meth c H locs cells slots la hC hI hs hl hR
  obtain ⟨x, r, rfl, hz, h1, h2⟩ := zi1_e h
  exact lv_if_le hC.1 hC.2.1 hd (ztg_tgt hz) (fun hc => hk _ _ _ _ (h1 hc) p l e R s m args below meth c H locs cells slots la hC hI hs hl hR) (fun hc => hk _ _ _ _ (h2 hc) p l e R s m args below meth c H locs cells slots la hC hI hs hl hR)
theorem zs_acmp_eq {off : Int} (hd : decode (zcc K) pc = .ok (.if_acmp .eq off, 3)) (h : zst g K Q (.if_acmp .eq off) 3 pc ls st M k) (hk : ∀ pc2 ls2 st2 M2, k pc2 ls2 st2 M2 → Z0 g K Q d cN sN M2 pc2 ls2 st2) : Z0 g K Q d cN sN M pc ls st := by
  simp only [zst] at h
  intro p l e R s m args below meth c H locs cells slots la hC hI hs hl hR
  obtain ⟨v, w, r, rfl, a, b, rfl, rfl, hz, h1, h2⟩ := zv2_e h
  exact lv_acmp_eq hC.1 hC.2.1 hd (ztg_tgt hz) (fun hc => hk _ _ _ _ (h1 hc) p l e R s m args below meth c H locs cells slots la hC hI hs hl hR) (fun hc => hk _ _ _ _ (h2 hc) p l e R s m args below meth c H locs cells slots la hC hI hs hl hR)
theorem zs_acmp_ne {off : Int} (hd : decode (zcc K) pc = .ok (.if_acmp .ne off, 3)) (h : zst g K Q (.if_acmp .ne off) 3 pc ls st M k) (hk : ∀ pc2 ls2 st2 M2, k pc2 ls2 st2 M2 → Z0 g K Q d cN sN M2 pc2 ls2 st2) : Z0 g K Q d cN sN M pc ls st := by
  simp only [zst] at h
  intro p l e R s m args below meth c H locs cells slots la hC hI hs hl hR
  obtain ⟨v, w, r, rfl, a, b, rfl, rfl, hz, h1, h2⟩ := zv2_e h
  exact lv_acmp_ne hC.1 hC.2.1 hd (ztg_tgt hz) (fun hc => hk _ _ _ _ (h1 hc) p l e R s m args below meth c H locs cells slots la hC hI hs hl hR) (fun hc => hk _ _ _ _ (h2 hc) p l e R s m args below meth c H locs cells slots la hC hI hs hl hR)
theorem zs_goto {off : Int} (hd : decode (zcc K) pc = .ok (.goto off, 3)) (h : zst g K Q (.goto off) 3 pc ls st M k) (hk : ∀ pc2 ls2 st2 M2, k pc2 ls2 st2 M2 → Z0 g K Q d cN sN M2 pc2 ls2 st2) : Z0 g K Q d cN sN M pc ls st := by
  simp only [zst] at h
  intro p l e R s m args below meth c H locs cells slots la hC hI hs hl hR
  obtain ⟨hz, h⟩ := h
  exact lv_goto hC.1 hC.2.1 hd (ztg_tgt hz) (hk _ _ _ _ h p l e R s m args below meth c H locs cells slots la hC hI hs hl hR)
theorem zs_ifnull {off : Int} (hd : decode (zcc K) pc = .ok (.ifnull off, 3)) (h : zst g K Q (.ifnull off) 3 pc ls st M k) (hk : ∀ pc2 ls2 st2 M2, k pc2 ls2 st2 M2 → Z0 g K Q d cN sN M2 pc2 ls2 st2) : Z0 g K Q d cN sN M pc ls st := by
  simp only [zst] at h
  intro p l e R s m args below meth c H locs cells slots la hC hI hs hl hR
  obtain ⟨v, r, e0, hz, h3⟩ := zv1_e h
  subst e0
  rcases h3 with ⟨rfl, h5⟩ | ⟨⟨a, rfl⟩, h5⟩
  · exact lv_ifnullN hC.1 hC.2.1 hd (ztg_tgt hz) (hk _ _ _ _ h5 p l e R s m args below meth c H locs cells slots la hC hI hs hl hR)
  · exact lv_ifnull hC.1 hC.2.1 hd (hk _ _ _ _ h5 p l e R s m args below meth c H locs cells slots la hC hI hs hl hR)
theorem zs_ifnonnull {off : Int} (hd : decode (zcc K) pc = .ok (.ifnonnull off, 3)) (h : zst g K Q (.ifnonnull off) 3 pc ls st M k) (hk : ∀ pc2 ls2 st2 M2, k pc2 ls2 st2 M2 → Z0 g K Q d cN sN M2 pc2 ls2 st2) : Z0 g K Q d cN sN M pc ls st := by
  simp only [zst] at h
  intro p l e R s m args below meth c H locs cells slots la hC hI hs hl hR
  obtain ⟨v, r, e0, hz, h3⟩ := zv1_e h
  subst e0
  rcases h3 with ⟨rfl, h5⟩ | ⟨⟨a, rfl⟩, h5⟩
  · exact lv_ifnonnullN hC.1 hC.2.1 hd (hk _ _ _ _ h5 p l e R s m args below meth c H locs cells slots la hC hI hs hl hR)
  · exact lv_ifnonnull hC.1 hC.2.1 hd (ztg_tgt hz) (hk _ _ _ _ h5 p l e R s m args below meth c H locs cells slots la hC hI hs hl hR)
theorem zin : ∀ (ci : Nat), ci < zcl.length → ∀ w ∈ u_ws (zC0 ci) (zT ci) (zN ci), w ∈ lw_all
  | 0, _ => in_X1
  | 1, _ => in_X2
  | 2, _ => in_X3
  | 3, _ => in_X4
  | 4, _ => in_X5
  | 5, _ => in_X6
  | 6, _ => fun w hw => in_X7 w (by
      obtain ⟨k, hk, rfl⟩ := List.mem_map.mp (show w ∈ (List.range 3).map (u_lay RX7 TZ6) from hw)
      have hk := List.mem_range.mp hk
      exact List.mem_map.mpr ⟨k + 6, List.mem_range.mpr (by omega), rfl⟩)
  | 7, _ => in_J1
  | 8, _ => in_J3
  | 9, _ => fun w hw => by cases hw
  | 10, _ => fun w hw => by cases hw
  | 11, _ => fun w hw => by cases hw
  | 12, _ => fun w hw => by cases hw
  | 13, _ => fun w hw => by cases hw
  | 14, _ => fun w hw => by cases hw
  | 15, _ => fun w hw => by cases hw
  | 16, _ => fun w hw => by cases hw
  | n + 17, h => absurd h (by show ¬ n + 17 < 17; omega)
theorem nmZ6 : ∀ a, a < 3 → ∀ b, b < 3 → a ≠ b → (TZ6 a).2.1 ≠ (TZ6 b).2.1 := by decide +kernel
def tyZ6 : Nat → FieldType := fun k => tyX7 (k + 6)
theorem tyZ6_ok : ∀ k, k < 3 → parseFieldDescriptor (TZ6 k).2.2.1 = some (tyZ6 k) := by decide +kernel
theorem zapart0 : ∀ (ci : Nat), ci < zcl.length → (∃ ty : Nat → FieldType, ∀ k, k < zN ci → parseFieldDescriptor (zT ci k).2.2.1 = some (ty k)) ∧ (∀ a, a < zN ci → ∀ b, b < zN ci → a ≠ b → (zT ci a).2.1 ≠ (zT ci b).2.1)
  | 0, _ => ⟨⟨tyX1, tyX1_ok⟩, nmX1⟩
  | 1, _ => ⟨⟨tyX2, tyX2_ok⟩, nmX2⟩
  | 2, _ => ⟨⟨tyX3, tyX3_ok⟩, nmX3⟩
  | 3, _ => ⟨⟨tyX4, tyX4_ok⟩, nmX4⟩
  | 4, _ => ⟨⟨tyX5, tyX5_ok⟩, nmX5⟩
  | 5, _ => ⟨⟨tyX6, tyX6_ok⟩, nmX6⟩
  | 6, _ => ⟨⟨tyZ6, tyZ6_ok⟩, nmZ6⟩
  | 7, _ => ⟨⟨tyJ1, tyJ1_ok⟩, nmJ1⟩
  | 8, _ => ⟨⟨tyJ3, tyJ3_ok⟩, nmJ3⟩
  | 9, _ => ⟨⟨fun _ => .int, fun k h => absurd h (Nat.not_lt_zero k)⟩, fun a h => absurd h (Nat.not_lt_zero a)⟩
  | 10, _ => ⟨⟨fun _ => .int, fun k h => absurd h (Nat.not_lt_zero k)⟩, fun a h => absurd h (Nat.not_lt_zero a)⟩
  | 11, _ => ⟨⟨fun _ => .int, fun k h => absurd h (Nat.not_lt_zero k)⟩, fun a h => absurd h (Nat.not_lt_zero a)⟩
  | 12, _ => ⟨⟨fun _ => .int, fun k h => absurd h (Nat.not_lt_zero k)⟩, fun a h => absurd h (Nat.not_lt_zero a)⟩
  | 13, _ => ⟨⟨fun _ => .int, fun k h => absurd h (Nat.not_lt_zero k)⟩, fun a h => absurd h (Nat.not_lt_zero a)⟩
  | 14, _ => ⟨⟨fun _ => .int, fun k h => absurd h (Nat.not_lt_zero k)⟩, fun a h => absurd h (Nat.not_lt_zero a)⟩
  | 15, _ => ⟨⟨fun _ => .int, fun k h => absurd h (Nat.not_lt_zero k)⟩, fun a h => absurd h (Nat.not_lt_zero a)⟩
  | 16, _ => ⟨⟨fun _ => .int, fun k h => absurd h (Nat.not_lt_zero k)⟩, fun a h => absurd h (Nat.not_lt_zero a)⟩
  | n + 17, h => absurd h (by show ¬ n + 17 < 17; omega)
theorem zapart {p : Program} {l : Launch} {s : State} {m : MethodId} {args : Array Value} {meth : Method} {c : Code} (hC : zC g K p l s m args meth c) {ci : Nat} (h : ci < zcl.length) : ∀ x y, x < zN ci → y < zN ci → x ≠ y → (zD g).2 ci x ≠ (zD g).2 ci y := by
  obtain ⟨⟨ty, hty⟩, hnm⟩ := zapart0 ci h
  exact va_apart (own := zown K) hC.2.2.2.2.2.2.1 (zin ci h) ty hty hnm hC.kk (zcl_at h)


theorem zK_at {p : Program} {l : Launch} {s : State} {m : MethodId} {args : Array Value} {meth : Method} {c : Code} (hC : zC g K p l s m args meth c) {ci : Nat} (h : ci < zcl.length) : u_Kn s (zC0 ci) (zT ci) (zN ci) ((zD g).1 ci) ((zD g).2 ci) := hC.kk.1 ci _ (zcl_at h)
theorem zwarm {p : Program} {l : Launch} {s : State} {m : MethodId} {args : Array Value} {meth : Method} {c : Code} (hC : zC g K p l s m args meth c) : (zs g).WarmedH s.vm := hC.2.2.2.2.2.2.2.1
theorem zobj {p : Program} {l : Launch} {s : State} {m : MethodId} {args : Array Value} {meth : Method} {c : Code} (hC : zC g K p l s m args meth c) {H : Heap} {locs : List Loc} (hI : zI g M H locs) {a ci : Nat} {fs : List Value} (hlt : ci < zcl.length) (hm : M.1 a = some (.inr (ci, fs))) : ∃ cell : Cell, H[a]? = some cell ∧ cell.cls = (zD g).1 ci ∧ cell.vm = .none ∧ ∀ k, k < zN ci → cell.slots[(zD g).2 ci k]? = some (vp_V fs k) := by
  obtain ⟨r, h1, h2⟩ := hI.get hm
  have hr : r = (zC0 ci, zT ci, zN ci) := Option.some.inj (h1.symm.trans (zcl_at hlt))
  subst hr
  exact h2

theorem zs_getfield {i : Nat} (hd : decode (zcc K) pc = .ok (.getfield i, 3)) (h : zst g K Q (.getfield i) 3 pc ls st M k) (hk : ∀ pc2 ls2 st2 M2, k pc2 ls2 st2 M2 → Z0 g K Q d cN sN M2 pc2 ls2 st2) : Z0 g K Q d cN sN M pc ls st := by
  simp only [zst] at h
  intro p l e R s m args below meth c H locs cells slots la hC hI hs hl hR
  obtain ⟨a, r, rfl, h⟩ := zr1_e h
  obtain ⟨ci, kf, ty, mode, fs, v, hF, hm, hv, h⟩ := zgf_e h
  obtain ⟨f1, f2, f3, f4, -, -⟩ := hC.2.2.2.2.2.2.2.2.2.2.2.2.2 _ hF
  dsimp only at f1 f2 f3 f4
  obtain ⟨cell, q1, q2, q3, q4⟩ := zobj hC hI f1 hm
  obtain ⟨hSl, hfc, kC, hkC, hkind⟩ := zK_at hC f1
  obtain ⟨cf, kf2, fi, f, hi, hsl⟩ := hSl kf f2
  have hst := (u_facts hfc hkC (u_lays hC.2.2.2.2.2.2.1 (zin ci f1) f2) hi).1
  have hslot : cell.slots[f.slot]? = some v := by rw [hsl, q4 kf f2]; simp [vp_V, hv]
  rcases f4 with ⟨host, f4, -⟩ | f4
  · exact va_Wgetf hC.1 hC.2.1 hC.2.2.2.2.2.1 (va_Nw.use rfl (va_Nw.warmF (zwarm hC) (va_Nw.of rfl (hC.tbl _ f4)))) hi hst q1 (by rw [q3]; exact fun h => by cases h) hslot rfl rfl hd (hk _ _ _ _ h p l e R s m args below meth c H locs cells slots la hC hI hs hl hR)
  · exact W.getf hC.1 hC.2.1 hC.2.2.2.2.2.1 (hC.2.2.2.2.2.2.1 _ f4) hi hst q1 (by rw [q3]; exact fun h => by cases h) hslot rfl rfl hd (hk _ _ _ _ h p l e R s m args below meth c H locs cells slots la hC hI hs hl hR)
theorem zs_putfield {i : Nat} (hd : decode (zcc K) pc = .ok (.putfield i, 3)) (h : zst g K Q (.putfield i) 3 pc ls st M k) (hk : ∀ pc2 ls2 st2 M2, k pc2 ls2 st2 M2 → Z0 g K Q d cN sN M2 pc2 ls2 st2) : Z0 g K Q d cN sN M pc ls st := by
  simp only [zst] at h
  intro p l e R s m args below meth c H locs cells slots la hC hI hs hl hR
  obtain ⟨a, v, r, rfl, h⟩ := zrv_e h
  obtain ⟨ci, kf, ty, mode, fs, hF, hm, hlen, hfit, hmode, h⟩ := zpf_e h
  obtain ⟨f1, f2, f3, f4, f5, f6⟩ := hC.2.2.2.2.2.2.2.2.2.2.2.2.2 _ hF
  dsimp only at f1 f2 f3 f4 f5 f6
  obtain ⟨cell, q1, q2, q3, q4⟩ := zobj hC hI f1 hm
  obtain ⟨hSl, hfc, kC, hkC, hkind⟩ := zK_at hC f1
  obtain ⟨cf, kf2, fi, f, hi, hsl⟩ := hSl kf f2
  have hlays := u_lays hC.2.2.2.2.2.2.1 (zin ci f1) f2
  have hst := (u_facts hfc hkC hlays hi).1
  have hap := zapart hC f1
  have hlt : f.slot < cell.slots.size := by rw [hsl]; exact k2_hasslot (q4 kf f2)
  have hlay := hC.2.2.2.2.2.2.1 _ (zin ci f1 _ (u_in_lay f2))
  unfold u_lay at hlay
  have fin : ∀ H2 : Heap, H2[a]? = some (cell.setSlot f.slot v) → va_at (zD g) zcl (a, .inr (ci, fs.set kf v)) H2 := fun H2 e1 => by
    rw [hsl] at e1
    exact ⟨_, zcl_at f1, t_OB.to (V := updV (vp_V fs) kf v) ⟨_, e1, q2, q3, t_set q4 hap f2 v⟩ (fun j _ => vp_updV_set hlen v j)⟩
  rcases hmode with rfl | ⟨rfl, hini⟩
  · have hfin := f5 rfl
    rw [if_neg (by rw [hfin]; decide)] at hlay
    have h6 := u_store hfc hkC hkind hlay hi f3 hfit.1 hfit.2
    rcases f4 with ⟨host, f4, -⟩ | f4
    · exact va_WputK hC.1 hC.2.1 (f := f) hC.2.2.2.2.2.1 (va_Nw.use rfl (va_Nw.warmF (zwarm hC) (va_Nw.of rfl (hC.tbl _ f4)))) hi hst (by rw [q2]; exact h6) q1 q3 hlt rfl rfl hd fun H2 e1 e2 e3 => (hk _ _ _ _ h p l e R s m args below meth c H2 _ cells slots la hC (hI.put hm (fin H2 e1) e2 e3) (by omega) hl hR)
    · exact W.putK hC.1 hC.2.1 (f := f) ⟨hC.2.2.2.2.2.1, hC.2.2.2.2.2.2.1 _ f4, ⟨_, _, _, hi⟩, hst⟩ (by rw [q2]; exact h6) q1 q3 hlt rfl rfl hd fun H2 e1 e2 e3 => (hk _ _ _ _ h p l e R s m args below meth c H2 _ cells slots la hC (hI.put hm (fin H2 e1) e2 e3) (by omega) hl hR)
  · obtain ⟨hfin, hdecl⟩ := f6 rfl
    rw [if_pos hfin] at hlay
    have hcf : m.cls = cf := by
      obtain ⟨_, _, c9, _, _, _, -, -, hf9, -, -, -, hown2, -⟩ := Cond.laysFinal_spec hlay
      have e1 : c9 = cf := by have := hi.symm.trans hf9; simp at this; exact this.1.symm
      rw [hdecl] at hown2
      rw [← e1]; exact Option.some.inj (hC.2.2.2.2.2.1.symm.trans hown2)
    have h6 := u_fits hfc hkC hkind (Or.inr hlay) hi f3 hfit.1 hfit.2
    rcases f4 with ⟨host, f4, hle⟩ | f4
    · omega
    · exact W.putFinK hC.1 hC.2.1 hC.2.2.2.2.2.1 (hC.2.2.2.2.2.2.1 _ f4) hi hst hcf (hC.2.2.2.2.2.2.2.2.2.2.1 hini) (by rw [q2]; exact h6) q1 q3 hlt rfl rfl hd fun H2 e1 e2 e3 => (hk _ _ _ _ h p l e R s m args below meth c H2 _ cells slots la hC (hI.put hm (fin H2 e1) e2 e3) (by omega) hl hR)
theorem zs_arraylength (hd : decode (zcc K) pc = .ok (.arraylength, 1)) (h : zst g K Q (.arraylength) 1 pc ls st M k) (hk : ∀ pc2 ls2 st2 M2, k pc2 ls2 st2 M2 → Z0 g K Q d cN sN M2 pc2 ls2 st2) : Z0 g K Q d cN sN M pc ls st := by
  simp only [zst] at h
  intro p l e R s m args below meth c H locs cells slots la hC hI hs hl hR
  obtain ⟨a, r, e0, h3⟩ := zr1_e h
  subst e0
  obtain ⟨cA, x, hm, h4⟩ := zaa_e h3
  obtain ⟨⟨t, ty, ht⟩, h⟩ := h4
  obtain ⟨⟨ws, hc, hP, hD⟩, hz, hS⟩ := hI
  obtain ⟨q0, hq⟩ := hc _ _ hm
  exact va_alen hC.1 hC.2.1 hC.kk hP q0 t hq ht rfl hd (hk _ _ _ _ h p l e R s m args below meth c H locs cells slots la hC ⟨⟨ws, hc, hP, hD⟩, hz, hS⟩ hs hl hR)
theorem zs_iaload (hd : decode (zcc K) pc = .ok (.iaload, 1)) (h : zst g K Q (.iaload) 1 pc ls st M k) (hk : ∀ pc2 ls2 st2 M2, k pc2 ls2 st2 M2 → Z0 g K Q d cN sN M2 pc2 ls2 st2) : Z0 g K Q d cN sN M pc ls st := by
  simp only [zst] at h
  intro p l e R s m args below meth c H locs cells slots la hC hI hs hl hR
  obtain ⟨a, i, r, rfl, h⟩ := zri_e h
  obtain ⟨n, f, hm, hin, h⟩ := zai_e h
  obtain ⟨⟨ws, hc, hP, hD⟩, hz, hS⟩ := hI
  obtain ⟨q0, hq⟩ := hc _ _ hm
  exact va_iald hC.1 hC.2.1 hC.kk hP q0 0 hq rfl hin hd (hk _ _ _ _ h p l e R s m args below meth c H locs cells slots la hC ⟨⟨ws, hc, hP, hD⟩, hz, hS⟩ hs hl hR)
theorem zs_caload (hd : decode (zcc K) pc = .ok (.caload, 1)) (h : zst g K Q (.caload) 1 pc ls st M k) (hk : ∀ pc2 ls2 st2 M2, k pc2 ls2 st2 M2 → Z0 g K Q d cN sN M2 pc2 ls2 st2) : Z0 g K Q d cN sN M pc ls st := by
  simp only [zst] at h
  intro p l e R s m args below meth c H locs cells slots la hC hI hs hl hR
  obtain ⟨a, i, r, rfl, h⟩ := zri_e h
  obtain ⟨n, f, hm, hin, h⟩ := zai_e h
  obtain ⟨⟨ws, hc, hP, hD⟩, hz, hS⟩ := hI
  obtain ⟨q0, hq⟩ := hc _ _ hm
  exact va_cald hC.1 hC.2.1 hC.kk hP q0 3 hq rfl hin hd (hk _ _ _ _ h p l e R s m args below meth c H locs cells slots la hC ⟨⟨ws, hc, hP, hD⟩, hz, hS⟩ hs hl hR)
theorem zs_baload (hd : decode (zcc K) pc = .ok (.baload, 1)) (h : zst g K Q (.baload) 1 pc ls st M k) (hk : ∀ pc2 ls2 st2 M2, k pc2 ls2 st2 M2 → Z0 g K Q d cN sN M2 pc2 ls2 st2) : Z0 g K Q d cN sN M pc ls st := by
  simp only [zst] at h
  intro p l e R s m args below meth c H locs cells slots la hC hI hs hl hR
  obtain ⟨a, i, r, rfl, h⟩ := zri_e h
  obtain ⟨n, f, hm, hin, h⟩ := zai_e h
  obtain ⟨⟨ws, hc, hP, hD⟩, hz, hS⟩ := hI
  obtain ⟨q0, hq⟩ := hc _ _ hm
  exact va_bald hC.1 hC.2.1 hC.kk hP q0 4 hq rfl hin hd (hk _ _ _ _ h p l e R s m args below meth c H locs cells slots la hC ⟨⟨ws, hc, hP, hD⟩, hz, hS⟩ hs hl hR)
theorem zs_laload (hd : decode (zcc K) pc = .ok (.laload, 1)) (h : zst g K Q (.laload) 1 pc ls st M k) (hk : ∀ pc2 ls2 st2 M2, k pc2 ls2 st2 M2 → Z0 g K Q d cN sN M2 pc2 ls2 st2) : Z0 g K Q d cN sN M pc ls st := by
  simp only [zst] at h
  intro p l e R s m args below meth c H locs cells slots la hC hI hs hl hR
  obtain ⟨a, i, r, rfl, h⟩ := zri_e h
  obtain ⟨n, f, hm, hin, h⟩ := zal_e h
  obtain ⟨⟨ws, hc, hP, hD⟩, hz, hS⟩ := hI
  obtain ⟨q0, hq⟩ := hc _ _ hm
  exact va_lald hC.1 hC.2.1 hC.kk hP q0 1 hq rfl hin hd (hk _ _ _ _ h p l e R s m args below meth c H locs cells slots la hC ⟨⟨ws, hc, hP, hD⟩, hz, hS⟩ hs hl hR)
theorem zs_daload (hd : decode (zcc K) pc = .ok (.daload, 1)) (h : zst g K Q (.daload) 1 pc ls st M k) (hk : ∀ pc2 ls2 st2 M2, k pc2 ls2 st2 M2 → Z0 g K Q d cN sN M2 pc2 ls2 st2) : Z0 g K Q d cN sN M pc ls st := by
  simp only [zst] at h
  intro p l e R s m args below meth c H locs cells slots la hC hI hs hl hR
  obtain ⟨a, i, r, rfl, h⟩ := zri_e h
  obtain ⟨n, f, hm, hin, h⟩ := zad_e h
  obtain ⟨⟨ws, hc, hP, hD⟩, hz, hS⟩ := hI
  obtain ⟨q0, hq⟩ := hc _ _ hm
  exact va_dald hC.1 hC.2.1 hC.kk hP q0 2 hq rfl hin hd (hk _ _ _ _ h p l e R s m args below meth c H locs cells slots la hC ⟨⟨ws, hc, hP, hD⟩, hz, hS⟩ hs hl hR)
theorem zs_aaload (hd : decode (zcc K) pc = .ok (.aaload, 1)) (h : zst g K Q (.aaload) 1 pc ls st M k) (hk : ∀ pc2 ls2 st2 M2, k pc2 ls2 st2 M2 → Z0 g K Q d cN sN M2 pc2 ls2 st2) : Z0 g K Q d cN sN M pc ls st := by
  simp only [zst] at h
  intro p l e R s m args below meth c H locs cells slots la hC hI hs hl hR
  obtain ⟨a, i, r, rfl, h⟩ := zri_e h
  obtain ⟨cA, n, f, hm, hR0, hin, h⟩ := zar_e h
  obtain ⟨⟨ws, hc, hP, hD⟩, hz, hS⟩ := hI
  obtain ⟨q0, hq⟩ := hc _ _ hm
  rcases hR0 with rfl | rfl | rfl | rfl | rfl
  · exact va_aldq hC.1 hC.2.1 hC.kk hP q0 5 hq rfl hin hd (hk _ _ _ _ h p l e R s m args below meth c H locs cells slots la hC ⟨⟨ws, hc, hP, hD⟩, hz, hS⟩ hs hl hR)
  · exact va_aldq hC.1 hC.2.1 hC.kk hP q0 6 hq rfl hin hd (hk _ _ _ _ h p l e R s m args below meth c H locs cells slots la hC ⟨⟨ws, hc, hP, hD⟩, hz, hS⟩ hs hl hR)
  · exact va_aldq hC.1 hC.2.1 hC.kk hP q0 7 hq rfl hin hd (hk _ _ _ _ h p l e R s m args below meth c H locs cells slots la hC ⟨⟨ws, hc, hP, hD⟩, hz, hS⟩ hs hl hR)
  · exact va_aldq hC.1 hC.2.1 hC.kk hP q0 8 hq rfl hin hd (hk _ _ _ _ h p l e R s m args below meth c H locs cells slots la hC ⟨⟨ws, hc, hP, hD⟩, hz, hS⟩ hs hl hR)
  · exact va_aldq hC.1 hC.2.1 hC.kk hP q0 9 hq rfl hin hd (hk _ _ _ _ h p l e R s m args below meth c H locs cells slots la hC ⟨⟨ws, hc, hP, hD⟩, hz, hS⟩ hs hl hR)
theorem zs_iastore (hd : decode (zcc K) pc = .ok (.iastore, 1)) (h : zst g K Q (.iastore) 1 pc ls st M k) (hk : ∀ pc2 ls2 st2 M2, k pc2 ls2 st2 M2 → Z0 g K Q d cN sN M2 pc2 ls2 st2) : Z0 g K Q d cN sN M pc ls st := by
  simp only [zst] at h
  intro p l e R s m args below meth c H locs cells slots la hC hI hs hl hR
  obtain ⟨a, i, x, r, rfl, h⟩ := zrii_e h
  obtain ⟨n, f, hm, hin, h⟩ := zai_e h
  refine W.iast hC.1 hC.2.1 (hI.get hm) ((hC.kk.2 0 _ rfl).1 n (fun j => .int (f j))) (fun q => by cases q) (by show ¬ (i < 0 ∨ (arrV _ _ _).slots.size ≤ _); rw [arrV_size]; exact hin) rfl rfl hd fun H2 e1 e2 e3 => ?_
  refine hk _ _ _ _ h p l e R s m args below meth c H2 _ cells slots la hC (hI.put hm ?_ e2 e3) (by omega) hl hR
  show H2[a]? = some (vp_cell _ _)
  rw [e1]
  rw [vp_cell_i, vp_cell_i, arrV_store]
  congr 2
  funext q
  by_cases hq : q = i.toNatClampNeg
  · subst hq; simp [updV, upd]
  · simp [updV, upd, hq]
theorem zs_castore (hd : decode (zcc K) pc = .ok (.castore, 1)) (h : zst g K Q (.castore) 1 pc ls st M k) (hk : ∀ pc2 ls2 st2 M2, k pc2 ls2 st2 M2 → Z0 g K Q d cN sN M2 pc2 ls2 st2) : Z0 g K Q d cN sN M pc ls st := by
  simp only [zst] at h
  intro p l e R s m args below meth c H locs cells slots la hC hI hs hl hR
  obtain ⟨a, i, x, r, rfl, h⟩ := zrii_e h
  obtain ⟨n, f, hm, hin, h⟩ := zai_e h
  refine W.cast hC.1 hC.2.1 (hI.get hm) ((hC.kk.2 3 _ rfl).1 n (fun j => .int (f j))) (fun q => by cases q) (by show ¬ (i < 0 ∨ (arrV _ _ _).slots.size ≤ _); rw [arrV_size]; exact hin) rfl rfl hd fun H2 e1 e2 e3 => ?_
  refine hk _ _ _ _ h p l e R s m args below meth c H2 _ cells slots la hC (hI.put hm ?_ e2 e3) (by omega) hl hR
  show H2[a]? = some (vp_cell _ _)
  rw [e1]
  rw [vp_cell_i, vp_cell_i, arrV_store]
  congr 2
  funext q
  by_cases hq : q = i.toNatClampNeg
  · subst hq; simp [updV, upd, vp_nar]; rfl
  · simp [updV, upd, vp_nar, hq]
theorem zs_bastore (hd : decode (zcc K) pc = .ok (.bastore, 1)) (h : zst g K Q (.bastore) 1 pc ls st M k) (hk : ∀ pc2 ls2 st2 M2, k pc2 ls2 st2 M2 → Z0 g K Q d cN sN M2 pc2 ls2 st2) : Z0 g K Q d cN sN M pc ls st := by
  simp only [zst] at h
  intro p l e R s m args below meth c H locs cells slots la hC hI hs hl hR
  obtain ⟨a, i, x, r, rfl, h⟩ := zrii_e h
  obtain ⟨n, f, hm, hin, h⟩ := zai_e h
  refine W.bast hC.1 hC.2.1 (hI.get hm) ((hC.kk.2 4 _ rfl).1 n (fun j => .int (f j))) (fun q => by cases q) (by show ¬ (i < 0 ∨ (arrV _ _ _).slots.size ≤ _); rw [arrV_size]; exact hin) rfl rfl hd fun H2 e1 e2 e3 => ?_
  refine hk _ _ _ _ h p l e R s m args below meth c H2 _ cells slots la hC (hI.put hm ?_ e2 e3) (by omega) hl hR
  show H2[a]? = some (vp_cell _ _)
  rw [e1]
  rw [vp_cell_i, vp_cell_i, arrV_store]
  congr 2
  funext q
  by_cases hq : q = i.toNatClampNeg
  · subst hq; simp [updV, upd, vp_nar]; rfl
  · simp [updV, upd, vp_nar, hq]
theorem zs_lastore (hd : decode (zcc K) pc = .ok (.lastore, 1)) (h : zst g K Q (.lastore) 1 pc ls st M k) (hk : ∀ pc2 ls2 st2 M2, k pc2 ls2 st2 M2 → Z0 g K Q d cN sN M2 pc2 ls2 st2) : Z0 g K Q d cN sN M pc ls st := by
  simp only [zst] at h
  intro p l e R s m args below meth c H locs cells slots la hC hI hs hl hR
  obtain ⟨a, i, x, r, rfl, h⟩ := zril_e h
  obtain ⟨n, f, hm, hin, h⟩ := zal_e h
  refine W.last hC.1 hC.2.1 (hI.get hm) ((hC.kk.2 1 _ rfl).1 n (fun j => .long (f j))) (fun q => by cases q) (by show ¬ (i < 0 ∨ (arrV _ _ _).slots.size ≤ _); rw [arrV_size]; exact hin) rfl rfl hd fun H2 e1 e2 e3 => ?_
  refine hk _ _ _ _ h p l e R s m args below meth c H2 _ cells slots la hC (hI.put hm ?_ e2 e3) (by omega) hl hR
  show H2[a]? = some (vp_cell _ _)
  rw [e1]
  rw [vp_cell_l, vp_cell_l, arrV_store]
  congr 2
  funext q
  by_cases hq : q = i.toNatClampNeg
  · subst hq; simp [updV, vp_updL]
  · simp [updV, vp_updL, hq]
theorem zs_dastore (hd : decode (zcc K) pc = .ok (.dastore, 1)) (h : zst g K Q (.dastore) 1 pc ls st M k) (hk : ∀ pc2 ls2 st2 M2, k pc2 ls2 st2 M2 → Z0 g K Q d cN sN M2 pc2 ls2 st2) : Z0 g K Q d cN sN M pc ls st := by
  simp only [zst] at h
  intro p l e R s m args below meth c H locs cells slots la hC hI hs hl hR
  obtain ⟨a, i, x, r, rfl, h⟩ := zrid_e h
  obtain ⟨n, f, hm, hin, h⟩ := zad_e h
  refine W.dast hC.1 hC.2.1 (hI.get hm) ((hC.kk.2 2 _ rfl).1 n (fun j => .double (f j))) (fun q => by cases q) (by show ¬ (i < 0 ∨ (arrV _ _ _).slots.size ≤ _); rw [arrV_size]; exact hin) rfl rfl hd fun H2 e1 e2 e3 => ?_
  refine hk _ _ _ _ h p l e R s m args below meth c H2 _ cells slots la hC (hI.put hm ?_ e2 e3) (by omega) hl hR
  show H2[a]? = some (vp_cell _ _)
  rw [e1]
  rw [vp_cell_d, vp_cell_d, arrV_store]
  congr 2
  funext q
  by_cases hq : q = i.toNatClampNeg
  · subst hq; simp [updV, vf_upd]
  · simp [updV, vf_upd, hq]
theorem zs_ireturn (hd : decode (zcc K) pc = .ok (.ireturn, 1)) (h : zst g K Q (.ireturn) 1 pc ls st M k) : Z0 g K Q d cN sN M pc ls st := by
  simp only [zst] at h
  intro p l e R s m args below meth c H locs cells slots la hC hI hs hl hR
  obtain ⟨x, r, e0, e1, h3⟩ := zi1_e h
  subst e1
  subst e0
  obtain ⟨⟨ty, hty, hn⟩, hQ⟩ := h3
  obtain ⟨-, -, hcl, hsl⟩ := hR
  refine W.widen (k := R.cells) (n := R.slots) (by omega) (by omega) (vx_ret ?_)
  exact W.zret hC.1 hC.2.1 (hC.2.2.1.trans hty) hn (fun t ht hW => ⟨_, M, rfl, hQ, by rw [ht]; exact hI.R⟩) hI.2.2.2.2 hd hC.2.2.2.1
theorem zs_freturn (hd : decode (zcc K) pc = .ok (.freturn, 1)) (h : zst g K Q (.freturn) 1 pc ls st M k) : Z0 g K Q d cN sN M pc ls st := by
  simp only [zst] at h
  intro p l e R s m args below meth c H locs cells slots la hC hI hs hl hR
  obtain ⟨v, r, e0, x, e2, e1, hty, hQ⟩ := zv1_e h
  subst e1
  subst e2
  subst e0
  obtain ⟨-, -, hcl, hsl⟩ := hR
  refine W.widen (k := R.cells) (n := R.slots) (by omega) (by omega) (vx_ret ?_)
  exact W.fret hC.1 hC.2.1 (hC.2.2.1.trans hty) (fun t ht hW => ⟨_, M, rfl, hQ, by rw [ht]; exact hI.R⟩) hI.2.2.2.2 hd hC.2.2.2.1
theorem zs_dreturn (hd : decode (zcc K) pc = .ok (.dreturn, 1)) (h : zst g K Q (.dreturn) 1 pc ls st M k) : Z0 g K Q d cN sN M pc ls st := by
  simp only [zst] at h
  intro p l e R s m args below meth c H locs cells slots la hC hI hs hl hR
  obtain ⟨v, r, e0, x, e2, e1, hty, hQ⟩ := zv1_e h
  subst e1
  subst e2
  subst e0
  obtain ⟨-, -, hcl, hsl⟩ := hR
  refine W.widen (k := R.cells) (n := R.slots) (by omega) (by omega) (vx_ret ?_)
  exact W.dret hC.1 hC.2.1 (hC.2.2.1.trans hty) (fun t ht hW => ⟨_, M, rfl, hQ, by rw [ht]; exact hI.R⟩) hI.2.2.2.2 hd hC.2.2.2.1
theorem zs_areturn (hd : decode (zcc K) pc = .ok (.areturn, 1)) (h : zst g K Q (.areturn) 1 pc ls st M k) : Z0 g K Q d cN sN M pc ls st := by
  simp only [zst] at h
  intro p l e R s m args below meth c H locs cells slots la hC hI hs hl hR
  obtain ⟨v, r, e0, hv, e1, h3⟩ := zv1_e h
  subst e1
  subst e0
  obtain ⟨⟨ty, hty, hn⟩, hQ⟩ := h3
  obtain ⟨-, -, hcl, hsl⟩ := hR
  refine W.widen (k := R.cells) (n := R.slots) (by omega) (by omega) (vx_ret ?_)
  exact W.aret hC.1 hC.2.1 (hC.2.2.1.trans hty) hn hv (fun t ht hW => ⟨_, M, rfl, hQ, by rw [ht]; exact hI.R⟩) hI.2.2.2.2 hd hC.2.2.2.1
theorem zs_vreturn (hd : decode (zcc K) pc = .ok (.return_, 1)) (h : zst g K Q (.return_) 1 pc ls st M k) : Z0 g K Q d cN sN M pc ls st := by
  simp only [zst] at h
  intro p l e R s m args below meth c H locs cells slots la hC hI hs hl hR
  obtain ⟨e0, hty, hQ⟩ := h
  subst e0
  obtain ⟨-, -, hcl, hsl⟩ := hR
  refine W.widen (k := R.cells) (n := R.slots) (by omega) (by omega) (vx_ret ?_)
  exact W.vret hC.1 hC.2.1 (hC.2.2.1.trans hty) (fun t ht hW => ⟨_, M, rfl, hQ, by rw [ht]; exact hI.R⟩) hI.2.2.2.2 hd hC.2.2.2.1
end ZS
/-- the judgement again, closed: it isn't unfolded where two of them are compared -/
theorem Z_ex : Nonempty {f : ZG → ZK → ZQ → Nat → Nat → Nat → ZM → Nat → List (Option Value) → List Value → Prop // f = Z0} := ⟨⟨Z0, rfl⟩⟩
noncomputable def Z : ZG → ZK → ZQ → Nat → Nat → Nat → ZM → Nat → List (Option Value) → List Value → Prop := (Classical.choice Z_ex).val
theorem Z_eq : Z = Z0 := (Classical.choice Z_ex).property
theorem Z_mk {g : ZG} {K : ZK} {Q : ZQ} {d cN sN pc : Nat} {M : ZM} {ls : List (Option Value)} {st : List Value} (h : Z0 g K Q d cN sN M pc ls st) : Z g K Q d cN sN M pc ls st := by rw [Z_eq]; exact h
theorem Z_un {g : ZG} {K : ZK} {Q : ZQ} {d cN sN pc : Nat} {M : ZM} {ls : List (Option Value)} {st : List Value} (h : Z g K Q d cN sN M pc ls st) : Z0 g K Q d cN sN M pc ls st := by rw [← Z_eq]; exact h
theorem Z.mono {g : ZG} {K : ZK} {Q : ZQ} {d cN sN d2 c2 s2 pc : Nat} {M : ZM} {ls : List (Option Value)} {st : List Value} (h : Z g K Q d cN sN M pc ls st) (h1 : d ≤ d2) (h2 : cN ≤ c2) (h3 : sN ≤ s2) : Z g K Q d2 c2 s2 M pc ls st := Z_mk ((Z_un h).mono h1 h2 h3)
