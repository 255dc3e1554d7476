section ZI
variable {g : ZG} {K : ZK} {Q : ZQ} {d cN sN pc : Nat} {M : ZM} {ls : List (Option Value)} {st : List Value} {x y : Int32}
theorem zi_iadd (hd : decode (zcc K) pc = .ok (.iadd, 1)) (kk : Z g K Q d cN sN M (pc + 1) ls (.int (x + y) :: st)) : Z g K Q d cN sN M pc ls (.int y :: .int x :: st) := by
  rw [Z_eq] at *
  exact zs_iadd (k := fun p l s m => Z0 g K Q d cN sN m p l s) hd (kk) (fun _ _ _ _ h => h)
theorem zi_isub (hd : decode (zcc K) pc = .ok (.isub, 1)) (kk : Z g K Q d cN sN M (pc + 1) ls (.int (x - y) :: st)) : Z g K Q d cN sN M pc ls (.int y :: .int x :: st) := by
  rw [Z_eq] at *
  exact zs_isub (k := fun p l s m => Z0 g K Q d cN sN m p l s) hd (kk) (fun _ _ _ _ h => h)
theorem zi_imul (hd : decode (zcc K) pc = .ok (.imul, 1)) (kk : Z g K Q d cN sN M (pc + 1) ls (.int (x * y) :: st)) : Z g K Q d cN sN M pc ls (.int y :: .int x :: st) := by
  rw [Z_eq] at *
  exact zs_imul (k := fun p l s m => Z0 g K Q d cN sN m p l s) hd (kk) (fun _ _ _ _ h => h)
theorem zi_iand (hd : decode (zcc K) pc = .ok (.iand, 1)) (kk : Z g K Q d cN sN M (pc + 1) ls (.int (x &&& y) :: st)) : Z g K Q d cN sN M pc ls (.int y :: .int x :: st) := by
  rw [Z_eq] at *
  exact zs_iand (k := fun p l s m => Z0 g K Q d cN sN m p l s) hd (kk) (fun _ _ _ _ h => h)
theorem zi_ior (hd : decode (zcc K) pc = .ok (.ior, 1)) (kk : Z g K Q d cN sN M (pc + 1) ls (.int (x ||| y) :: st)) : Z g K Q d cN sN M pc ls (.int y :: .int x :: st) := by
  rw [Z_eq] at *
  exact zs_ior (k := fun p l s m => Z0 g K Q d cN sN m p l s) hd (kk) (fun _ _ _ _ h => h)
theorem zi_ixor (hd : decode (zcc K) pc = .ok (.ixor, 1)) (kk : Z g K Q d cN sN M (pc + 1) ls (.int (x ^^^ y) :: st)) : Z g K Q d cN sN M pc ls (.int y :: .int x :: st) := by
  rw [Z_eq] at *
  exact zs_ixor (k := fun p l s m => Z0 g K Q d cN sN m p l s) hd (kk) (fun _ _ _ _ h => h)
theorem zi_ishl (hd : decode (zcc K) pc = .ok (.ishl, 1)) (kk : Z g K Q d cN sN M (pc + 1) ls (.int (x <<< (y &&& 31)) :: st)) : Z g K Q d cN sN M pc ls (.int y :: .int x :: st) := by
  rw [Z_eq] at *
  exact zs_ishl (k := fun p l s m => Z0 g K Q d cN sN m p l s) hd (kk) (fun _ _ _ _ h => h)
theorem zi_ishr (hd : decode (zcc K) pc = .ok (.ishr, 1)) (kk : Z g K Q d cN sN M (pc + 1) ls (.int (x >>> (y &&& 31)) :: st)) : Z g K Q d cN sN M pc ls (.int y :: .int x :: st) := by
  rw [Z_eq] at *
  exact zs_ishr (k := fun p l s m => Z0 g K Q d cN sN m p l s) hd (kk) (fun _ _ _ _ h => h)
theorem zi_iushr (hd : decode (zcc K) pc = .ok (.iushr, 1)) (kk : Z g K Q d cN sN M (pc + 1) ls (.int ((x.toUInt32 >>> (y.toUInt32 &&& Int32.toUInt32 31)).toInt32) :: st)) : Z g K Q d cN sN M pc ls (.int y :: .int x :: st) := by
  rw [Z_eq] at *
  exact zs_iushr (k := fun p l s m => Z0 g K Q d cN sN m p l s) hd (kk) (fun _ _ _ _ h => h)
theorem zi_idiv (hd : decode (zcc K) pc = .ok (.idiv, 1)) (hy : ¬ y = 0) (kk : Z g K Q d cN sN M (pc + 1) ls (.int (x / y) :: st)) : Z g K Q d cN sN M pc ls (.int y :: .int x :: st) := by
  rw [Z_eq] at *
  exact zs_idiv (k := fun p l s m => Z0 g K Q d cN sN m p l s) hd (⟨hy, kk⟩) (fun _ _ _ _ h => h)
theorem zi_irem (hd : decode (zcc K) pc = .ok (.irem, 1)) (hy : ¬ y = 0) (kk : Z g K Q d cN sN M (pc + 1) ls (.int (x - x / y * y) :: st)) : Z g K Q d cN sN M pc ls (.int y :: .int x :: st) := by
  rw [Z_eq] at *
  exact zs_irem (k := fun p l s m => Z0 g K Q d cN sN m p l s) hd (⟨hy, kk⟩) (fun _ _ _ _ h => h)
theorem zi_ineg (hd : decode (zcc K) pc = .ok (.ineg, 1)) (kk : Z g K Q d cN sN M (pc + 1) ls (.int (-x) :: st)) : Z g K Q d cN sN M pc ls (.int x :: st) := by
  rw [Z_eq] at *
  exact zs_ineg (k := fun p l s m => Z0 g K Q d cN sN m p l s) hd (kk) (fun _ _ _ _ h => h)
theorem zi_i2l (hd : decode (zcc K) pc = .ok (.i2l, 1)) (kk : Z g K Q d cN sN M (pc + 1) ls (.long x.toInt64 :: st)) : Z g K Q d cN sN M pc ls (.int x :: st) := by
  rw [Z_eq] at *
  exact zs_i2l (k := fun p l s m => Z0 g K Q d cN sN m p l s) hd (kk) (fun _ _ _ _ h => h)
theorem zi_i2c (hd : decode (zcc K) pc = .ok (.i2c, 1)) (kk : Z g K Q d cN sN M (pc + 1) ls (.int (x.toUInt32 % 65536).toInt32 :: st)) : Z g K Q d cN sN M pc ls (.int x :: st) := by
  rw [Z_eq] at *
  exact zs_i2c (k := fun p l s m => Z0 g K Q d cN sN m p l s) hd (kk) (fun _ _ _ _ h => h)
theorem zi_i2b (hd : decode (zcc K) pc = .ok (.i2b, 1)) (kk : Z g K Q d cN sN M (pc + 1) ls (.int x.toInt8.toInt32 :: st)) : Z g K Q d cN sN M pc ls (.int x :: st) := by
  rw [Z_eq] at *
  exact zs_i2b (k := fun p l s m => Z0 g K Q d cN sN m p l s) hd (kk) (fun _ _ _ _ h => h)
theorem zi_i2f (hd : decode (zcc K) pc = .ok (.i2f, 1)) (kk : Z g K Q d cN sN M (pc + 1) ls (.float (FP.i2f x) :: st)) : Z g K Q d cN sN M pc ls (.int x :: st) := by
  rw [Z_eq] at *
  exact zs_i2f (k := fun p l s m => Z0 g K Q d cN sN m p l s) hd (kk) (fun _ _ _ _ h => h)
theorem zi_i2d (hd : decode (zcc K) pc = .ok (.i2d, 1)) (kk : Z g K Q d cN sN M (pc + 1) ls (.double (FP.i2d x) :: st)) : Z g K Q d cN sN M pc ls (.int x :: st) := by
  rw [Z_eq] at *
  exact zs_i2d (k := fun p l s m => Z0 g K Q d cN sN m p l s) hd (kk) (fun _ _ _ _ h => h)
theorem zi_f2d {u : UInt32} (hd : decode (zcc K) pc = .ok (.f2d, 1)) (hu : vf_n64 (FP.f2d u)) (kk : Z g K Q d cN sN M (pc + 1) ls (.double (FP.f2d u) :: st)) : Z g K Q d cN sN M pc ls (.float u :: st) := by
  rw [Z_eq] at *
  exact zs_f2d (k := fun p l s m => Z0 g K Q d cN sN m p l s) hd (⟨u, rfl, hu, kk⟩) (fun _ _ _ _ h => h)
theorem zi_fdiv {u w : UInt32} (hd : decode (zcc K) pc = .ok (.fdiv, 1)) (hu : vf_n32 (FP.fdiv u w)) (kk : Z g K Q d cN sN M (pc + 1) ls (.float (FP.fdiv u w) :: st)) : Z g K Q d cN sN M pc ls (.float w :: .float u :: st) := by
  rw [Z_eq] at *
  exact zs_fdiv (k := fun p l s m => Z0 g K Q d cN sN m p l s) hd (⟨hu, kk⟩) (fun _ _ _ _ h => h)
theorem zi_ddiv {u w : UInt64} (hd : decode (zcc K) pc = .ok (.ddiv, 1)) (hu : vf_n64 (FP.ddiv u w)) (kk : Z g K Q d cN sN M (pc + 1) ls (.double (FP.ddiv u w) :: st)) : Z g K Q d cN sN M pc ls (.double w :: .double u :: st) := by
  rw [Z_eq] at *
  exact zs_ddiv (k := fun p l s m => Z0 g K Q d cN sN m p l s) hd (⟨hu, kk⟩) (fun _ _ _ _ h => h)
theorem zi_lcmp {u w : Int64} (hd : decode (zcc K) pc = .ok (.lcmp, 1)) (kk : Z g K Q d cN sN M (pc + 1) ls (.int (lg_cmp u w) :: st)) : Z g K Q d cN sN M pc ls (.long w :: .long u :: st) := by
  rw [Z_eq] at *
  exact zs_lcmp (k := fun p l s m => Z0 g K Q d cN sN m p l s) hd (kk) (fun _ _ _ _ h => h)
theorem zi_fcmp {op : CmpOp} {u w : UInt32} (hd : decode (zcc K) pc = .ok (.fcmp op, 1)) (kk : Z g K Q d cN sN M (pc + 1) ls (.int (Op.cmpValue (FP.fcmp u w) op) :: st)) : Z g K Q d cN sN M pc ls (.float w :: .float u :: st) := by
  rw [Z_eq] at *
  exact zs_fcmp (k := fun p l s m => Z0 g K Q d cN sN m p l s) hd (kk) (fun _ _ _ _ h => h)
theorem zi_dcmp {op : CmpOp} {u w : UInt64} (hd : decode (zcc K) pc = .ok (.dcmp op, 1)) (kk : Z g K Q d cN sN M (pc + 1) ls (.int (Op.cmpValue (FP.dcmp u w) op) :: st)) : Z g K Q d cN sN M pc ls (.double w :: .double u :: st) := by
  rw [Z_eq] at *
  exact zs_dcmp (k := fun p l s m => Z0 g K Q d cN sN m p l s) hd (kk) (fun _ _ _ _ h => h)
theorem zi_iload_n {n : Fin 4} (hd : decode (zcc K) pc = .ok (.iload_n n, 1)) (hl : ls[n.val]? = some (some (.int x))) (kk : Z g K Q d cN sN M (pc + 1) ls (.int x :: st)) : Z g K Q d cN sN M pc ls (st) := by
  rw [Z_eq] at *
  exact zs_iload_n (k := fun p l s m => Z0 g K Q d cN sN m p l s) hd (by show zld ls _ _; unfold zld; rw [hl]; exact ⟨⟨x, rfl⟩, kk⟩) (fun _ _ _ _ h => h)
theorem zi_iload {n : Nat} (hd : decode (zcc K) pc = .ok (.iload n, 2)) (hl : ls[n]? = some (some (.int x))) (kk : Z g K Q d cN sN M (pc + 2) ls (.int x :: st)) : Z g K Q d cN sN M pc ls (st) := by
  rw [Z_eq] at *
  exact zs_iload (k := fun p l s m => Z0 g K Q d cN sN m p l s) hd (by show zld ls _ _; unfold zld; rw [hl]; exact ⟨⟨x, rfl⟩, kk⟩) (fun _ _ _ _ h => h)
theorem zi_fload {n : Nat} {u : UInt32} (hd : decode (zcc K) pc = .ok (.fload n, 2)) (hl : ls[n]? = some (some (.float u))) (kk : Z g K Q d cN sN M (pc + 2) ls (.float u :: st)) : Z g K Q d cN sN M pc ls (st) := by
  rw [Z_eq] at *
  exact zs_fload (k := fun p l s m => Z0 g K Q d cN sN m p l s) hd (by show zld ls _ _; unfold zld; rw [hl]; exact ⟨⟨u, rfl⟩, kk⟩) (fun _ _ _ _ h => h)
/-- a reference, or null -/
def zrf (v : Value) : Prop := v = .null ∨ ∃ a, v = .ref a
theorem zrf_r {a : Nat} : zrf (.ref a) := Or.inr ⟨a, rfl⟩
theorem zrf_n : zrf .null := Or.inl rfl
theorem zrf_c {v : Value} (h : zrf v) : v.category = 1 := by rcases h with rfl | ⟨a, rfl⟩ <;> rfl
theorem zrf_v (r : Option Nat) : zrf (va_rf r) := by cases r; exact zrf_n; exact zrf_r
theorem zi_aload_n {n : Fin 4} {v : Value} (hd : decode (zcc K) pc = .ok (.aload_n n, 1)) (hl : ls[n.val]? = some (some v)) (hv : zrf v) (kk : Z g K Q d cN sN M (pc + 1) ls (v :: st)) : Z g K Q d cN sN M pc ls (st) := by
  rw [Z_eq] at *
  exact zs_aload_n (k := fun p l s m => Z0 g K Q d cN sN m p l s) hd (by show zld ls _ _; unfold zld; rw [hl]; exact ⟨hv, kk⟩) (fun _ _ _ _ h => h)
theorem zi_aload {n : Nat} {v : Value} (hd : decode (zcc K) pc = .ok (.aload n, 2)) (hl : ls[n]? = some (some v)) (hv : zrf v) (kk : Z g K Q d cN sN M (pc + 2) ls (v :: st)) : Z g K Q d cN sN M pc ls (st) := by
  rw [Z_eq] at *
  exact zs_aload (k := fun p l s m => Z0 g K Q d cN sN m p l s) hd (by show zld ls _ _; unfold zld; rw [hl]; exact ⟨hv, kk⟩) (fun _ _ _ _ h => h)
theorem zi_istore_n {n : Fin 4} (hd : decode (zcc K) pc = .ok (.istore_n n, 1)) (hn : n.val < znL K) (kk : Z g K Q d cN sN M (pc + 1) (ls.set n.val (some (.int x))) (st)) : Z g K Q d cN sN M pc ls (.int x :: st) := by
  rw [Z_eq] at *
  exact zs_istore_n (k := fun p l s m => Z0 g K Q d cN sN m p l s) hd (⟨hn, kk⟩) (fun _ _ _ _ h => h)
theorem zi_istore {n : Nat} (hd : decode (zcc K) pc = .ok (.istore n, 2)) (hn : n < znL K) (kk : Z g K Q d cN sN M (pc + 2) (ls.set n (some (.int x))) (st)) : Z g K Q d cN sN M pc ls (.int x :: st) := by
  rw [Z_eq] at *
  exact zs_istore (k := fun p l s m => Z0 g K Q d cN sN m p l s) hd (⟨hn, kk⟩) (fun _ _ _ _ h => h)
theorem zi_fstore {n : Nat} {u : UInt32} (hd : decode (zcc K) pc = .ok (.fstore n, 2)) (hn : n < znL K) (kk : Z g K Q d cN sN M (pc + 2) (ls.set n (some (.float u))) (st)) : Z g K Q d cN sN M pc ls (.float u :: st) := by
  rw [Z_eq] at *
  exact zs_fstore (k := fun p l s m => Z0 g K Q d cN sN m p l s) hd (⟨⟨u, rfl⟩, hn, kk⟩) (fun _ _ _ _ h => h)
theorem zi_astore_n {n : Fin 4} {v : Value} (hd : decode (zcc K) pc = .ok (.astore_n n, 1)) (hv : zrf v) (hn : n.val < znL K) (kk : Z g K Q d cN sN M (pc + 1) (ls.set n.val (some v)) (st)) : Z g K Q d cN sN M pc ls (v :: st) := by
  rw [Z_eq] at *
  exact zs_astore_n (k := fun p l s m => Z0 g K Q d cN sN m p l s) hd (⟨hv, hn, kk⟩) (fun _ _ _ _ h => h)
theorem zi_astore {n : Nat} {v : Value} (hd : decode (zcc K) pc = .ok (.astore n, 2)) (hv : zrf v) (hn : n < znL K) (kk : Z g K Q d cN sN M (pc + 2) (ls.set n (some v)) (st)) : Z g K Q d cN sN M pc ls (v :: st) := by
  rw [Z_eq] at *
  exact zs_astore (k := fun p l s m => Z0 g K Q d cN sN m p l s) hd (⟨hv, hn, kk⟩) (fun _ _ _ _ h => h)
theorem zi_iinc {n : Nat} {i : Int} {w : Int32} (hd : decode (zcc K) pc = .ok (.iinc n i, 3)) (hl : ls[n]? = some (some (.int x))) (hw : Int32.ofInt i = w) (hn : n < znL K) (kk : Z g K Q d cN sN M (pc + 3) (ls.set n (some (.int (x + w)))) (st)) : Z g K Q d cN sN M pc ls (st) := by
  rw [Z_eq] at *
  exact zs_iinc (k := fun p l s m => Z0 g K Q d cN sN m p l s) hd (by subst hw; show zld ls _ _; unfold zld; rw [hl]; exact ⟨x, rfl, hn, kk⟩) (fun _ _ _ _ h => h)
theorem zi_null (hd : decode (zcc K) pc = .ok (.aconst_null, 1)) (kk : Z g K Q d cN sN M (pc + 1) ls (.null :: st)) : Z g K Q d cN sN M pc ls (st) := by
  rw [Z_eq] at *
  exact zs_null (k := fun p l s m => Z0 g K Q d cN sN m p l s) hd (kk) (fun _ _ _ _ h => h)
theorem zi_iconst {i : Int} {w : Int32} (hd : decode (zcc K) pc = .ok (.iconst i, 1)) (hw : Int32.ofInt i = w) (kk : Z g K Q d cN sN M (pc + 1) ls (.int w :: st)) : Z g K Q d cN sN M pc ls (st) := by
  rw [Z_eq] at *
  exact zs_iconst (k := fun p l s m => Z0 g K Q d cN sN m p l s) hd (by subst hw; exact kk) (fun _ _ _ _ h => h)
theorem zi_bipush {i : Int} {w : Int32} (hd : decode (zcc K) pc = .ok (.bipush i, 2)) (hw : (Int8.ofInt i).toInt32 = w) (kk : Z g K Q d cN sN M (pc + 2) ls (.int w :: st)) : Z g K Q d cN sN M pc ls (st) := by
  rw [Z_eq] at *
  exact zs_bipush (k := fun p l s m => Z0 g K Q d cN sN m p l s) hd (by subst hw; exact kk) (fun _ _ _ _ h => h)
theorem zi_sipush {i : Int} {w : Int32} (hd : decode (zcc K) pc = .ok (.sipush i, 3)) (hw : (Int16.ofInt i).toInt32 = w) (kk : Z g K Q d cN sN M (pc + 3) ls (.int w :: st)) : Z g K Q d cN sN M pc ls (st) := by
  rw [Z_eq] at *
  exact zs_sipush (k := fun p l s m => Z0 g K Q d cN sN m p l s) hd (by subst hw; exact kk) (fun _ _ _ _ h => h)
theorem zi_lconst {n : Fin 2} {w : Int64} (hd : decode (zcc K) pc = .ok (.lconst n, 1)) (hw : Int64.ofNat n.val = w) (kk : Z g K Q d cN sN M (pc + 1) ls (.long w :: st)) : Z g K Q d cN sN M pc ls (st) := by
  rw [Z_eq] at *
  exact zs_lconst (k := fun p l s m => Z0 g K Q d cN sN m p l s) hd (by subst hw; exact kk) (fun _ _ _ _ h => h)
theorem zi_fconst (hd : decode (zcc K) pc = .ok (.fconst 0, 1)) (kk : Z g K Q d cN sN M (pc + 1) ls (.float FP.fconst0 :: st)) : Z g K Q d cN sN M pc ls (st) := by
  rw [Z_eq] at *
  exact zs_fconst (k := fun p l s m => Z0 g K Q d cN sN m p l s) hd (kk) (fun _ _ _ _ h => h)
theorem zi_dconst (hd : decode (zcc K) pc = .ok (.dconst 0, 1)) (kk : Z g K Q d cN sN M (pc + 1) ls (.double FP.dconst0 :: st)) : Z g K Q d cN sN M pc ls (st) := by
  rw [Z_eq] at *
  exact zs_dconst (k := fun p l s m => Z0 g K Q d cN sN m p l s) hd (kk) (fun _ _ _ _ h => h)
theorem zi_pop {v : Value} (hd : decode (zcc K) pc = .ok (.pop, 1)) (hv : v.category = 1) (kk : Z g K Q d cN sN M (pc + 1) ls (st)) : Z g K Q d cN sN M pc ls (v :: st) := by
  rw [Z_eq] at *
  exact zs_pop (k := fun p l s m => Z0 g K Q d cN sN m p l s) hd (⟨hv, kk⟩) (fun _ _ _ _ h => h)
theorem zi_dup {v : Value} (hd : decode (zcc K) pc = .ok (.dup, 1)) (hv : v.category = 1) (kk : Z g K Q d cN sN M (pc + 1) ls (v :: v :: st)) : Z g K Q d cN sN M pc ls (v :: st) := by
  rw [Z_eq] at *
  exact zs_dup (k := fun p l s m => Z0 g K Q d cN sN m p l s) hd (⟨hv, kk⟩) (fun _ _ _ _ h => h)
theorem zi_dup_x1 {v w : Value} (hd : decode (zcc K) pc = .ok (.dup_x1, 1)) (hv : v.category = 1) (hw : w.category = 1) (kk : Z g K Q d cN sN M (pc + 1) ls (w :: v :: w :: st)) : Z g K Q d cN sN M pc ls (w :: v :: st) := by
  rw [Z_eq] at *
  exact zs_dup_x1 (k := fun p l s m => Z0 g K Q d cN sN m p l s) hd (⟨hv, hw, kk⟩) (fun _ _ _ _ h => h)
theorem zi_dup2 {v w : Value} (hd : decode (zcc K) pc = .ok (.dup2, 1)) (hv : v.category = 1) (hw : w.category = 1) (kk : Z g K Q d cN sN M (pc + 1) ls (w :: v :: w :: v :: st)) : Z g K Q d cN sN M pc ls (w :: v :: st) := by
  rw [Z_eq] at *
  exact zs_dup2 (k := fun p l s m => Z0 g K Q d cN sN m p l s) hd (⟨hv, hw, kk⟩) (fun _ _ _ _ h => h)
theorem ztgt {pc tgt : Nat} {off : Int} {k : Nat → Prop} (ht : (pc : Int) + off = (tgt : Int)) (h : k tgt) : ztg pc off k := by
  unfold ztg; rw [ht]; exact ⟨Int.natCast_nonneg _, h⟩
theorem zi_goto {o : Int} {tgt : Nat} (hd : decode (zcc K) pc = .ok (.goto o, 3)) (ht : (pc : Int) + o = (tgt : Int)) (kk : Z g K Q d cN sN M tgt ls st) : Z g K Q d cN sN M pc ls st := by
  rw [Z_eq] at *
  exact zs_goto (k := fun p l s m => Z0 g K Q d cN sN m p l s) hd (show ztg pc o (fun t => Z0 g K Q d cN sN M t ls st) from ztgt ht kk) (fun _ _ _ _ h => h)
theorem zi_icmp_eq {o : Int} {tgt : Nat} (hd : decode (zcc K) pc = .ok (.if_icmp .eq o, 3)) (ht : (pc : Int) + o = (tgt : Int)) (kt : x = y → Z g K Q d cN sN M tgt ls st) (kf : ¬ x = y → Z g K Q d cN sN M (pc + 3) ls st) : Z g K Q d cN sN M pc ls (.int y :: .int x :: st) := by
  rw [Z_eq] at *
  exact zs_icmp_eq (k := fun p l s m => Z0 g K Q d cN sN m p l s) hd (show ztg pc o (fun t => (x = y → Z0 g K Q d cN sN M t ls st) ∧ (¬ x = y → Z0 g K Q d cN sN M (pc + 3) ls st)) from ztgt ht ⟨kt, kf⟩) (fun _ _ _ _ h => h)
theorem zi_if_eq {o : Int} {tgt : Nat} (hd : decode (zcc K) pc = .ok (.ifCond .eq o, 3)) (ht : (pc : Int) + o = (tgt : Int)) (kt : x = 0 → Z g K Q d cN sN M tgt ls st) (kf : ¬ x = 0 → Z g K Q d cN sN M (pc + 3) ls st) : Z g K Q d cN sN M pc ls (.int x :: st) := by
  rw [Z_eq] at *
  exact zs_if_eq (k := fun p l s m => Z0 g K Q d cN sN m p l s) hd (show ztg pc o (fun t => (x = 0 → Z0 g K Q d cN sN M t ls st) ∧ (¬ x = 0 → Z0 g K Q d cN sN M (pc + 3) ls st)) from ztgt ht ⟨kt, kf⟩) (fun _ _ _ _ h => h)
theorem zi_icmp_ne {o : Int} {tgt : Nat} (hd : decode (zcc K) pc = .ok (.if_icmp .ne o, 3)) (ht : (pc : Int) + o = (tgt : Int)) (kt : ¬ x = y → Z g K Q d cN sN M tgt ls st) (kf : x = y → Z g K Q d cN sN M (pc + 3) ls st) : Z g K Q d cN sN M pc ls (.int y :: .int x :: st) := by
  rw [Z_eq] at *
  exact zs_icmp_ne (k := fun p l s m => Z0 g K Q d cN sN m p l s) hd (show ztg pc o (fun t => (¬ x = y → Z0 g K Q d cN sN M t ls st) ∧ (x = y → Z0 g K Q d cN sN M (pc + 3) ls st)) from ztgt ht ⟨kt, kf⟩) (fun _ _ _ _ h => h)
theorem zi_if_ne {o : Int} {tgt : Nat} (hd : decode (zcc K) pc = .ok (.ifCond .ne o, 3)) (ht : (pc : Int) + o = (tgt : Int)) (kt : ¬ x = 0 → Z g K Q d cN sN M tgt ls st) (kf : x = 0 → Z g K Q d cN sN M (pc + 3) ls st) : Z g K Q d cN sN M pc ls (.int x :: st) := by
  rw [Z_eq] at *
  exact zs_if_ne (k := fun p l s m => Z0 g K Q d cN sN m p l s) hd (show ztg pc o (fun t => (¬ x = 0 → Z0 g K Q d cN sN M t ls st) ∧ (x = 0 → Z0 g K Q d cN sN M (pc + 3) ls st)) from ztgt ht ⟨kt, kf⟩) (fun _ _ _ _ h => h)
theorem zi_icmp_lt {o : Int} {tgt : Nat} (hd : decode (zcc K) pc = .ok (.if_icmp .lt o, 3)) (ht : (pc : Int) + o = (tgt : Int)) (kt : x < y → Z g K Q d cN sN M tgt ls st) (kf : ¬ x < y → Z g K Q d cN sN M (pc + 3) ls st) : Z g K Q d cN sN M pc ls (.int y :: .int x :: st) := by
  rw [Z_eq] at *
  exact zs_icmp_lt (k := fun p l s m => Z0 g K Q d cN sN m p l s) hd (show ztg pc o (fun t => (x < y → Z0 g K Q d cN sN M t ls st) ∧ (¬ x < y → Z0 g K Q d cN sN M (pc + 3) ls st)) from ztgt ht ⟨kt, kf⟩) (fun _ _ _ _ h => h)
theorem zi_if_lt {o : Int} {tgt : Nat} (hd : decode (zcc K) pc = .ok (.ifCond .lt o, 3)) (ht : (pc : Int) + o = (tgt : Int)) (kt : x < 0 → Z g K Q d cN sN M tgt ls st) (kf : ¬ x < 0 → Z g K Q d cN sN M (pc + 3) ls st) : Z g K Q d cN sN M pc ls (.int x :: st) := by
  rw [Z_eq] at *
  exact zs_if_lt (k := fun p l s m => Z0 g K Q d cN sN m p l s) hd (show ztg pc o (fun t => (x < 0 → Z0 g K Q d cN sN M t ls st) ∧ (¬ x < 0 → Z0 g K Q d cN sN M (pc + 3) ls st)) from ztgt ht ⟨kt, kf⟩) (fun _ _ _ _ h => h)
theorem zi_icmp_ge {o : Int} {tgt : Nat} (hd : decode (zcc K) pc = .ok (.if_icmp .ge o, 3)) (ht : (pc : Int) + o = (tgt : Int)) (kt : y ≤ x → Z g K Q d cN sN M tgt ls st) (kf : ¬ y ≤ x → Z g K Q d cN sN M (pc + 3) ls st) : Z g K Q d cN sN M pc ls (.int y :: .int x :: st) := by
  rw [Z_eq] at *
  exact zs_icmp_ge (k := fun p l s m => Z0 g K Q d cN sN m p l s) hd (show ztg pc o (fun t => (y ≤ x → Z0 g K Q d cN sN M t ls st) ∧ (¬ y ≤ x → Z0 g K Q d cN sN M (pc + 3) ls st)) from ztgt ht ⟨kt, kf⟩) (fun _ _ _ _ h => h)
theorem zi_if_ge {o : Int} {tgt : Nat} (hd : decode (zcc K) pc = .ok (.ifCond .ge o, 3)) (ht : (pc : Int) + o = (tgt : Int)) (kt : 0 ≤ x → Z g K Q d cN sN M tgt ls st) (kf : ¬ 0 ≤ x → Z g K Q d cN sN M (pc + 3) ls st) : Z g K Q d cN sN M pc ls (.int x :: st) := by
  rw [Z_eq] at *
  exact zs_if_ge (k := fun p l s m => Z0 g K Q d cN sN m p l s) hd (show ztg pc o (fun t => (0 ≤ x → Z0 g K Q d cN sN M t ls st) ∧ (¬ 0 ≤ x → Z0 g K Q d cN sN M (pc + 3) ls st)) from ztgt ht ⟨kt, kf⟩) (fun _ _ _ _ h => h)
theorem zi_icmp_gt {o : Int} {tgt : Nat} (hd : decode (zcc K) pc = .ok (.if_icmp .gt o, 3)) (ht : (pc : Int) + o = (tgt : Int)) (kt : y < x → Z g K Q d cN sN M tgt ls st) (kf : ¬ y < x → Z g K Q d cN sN M (pc + 3) ls st) : Z g K Q d cN sN M pc ls (.int y :: .int x :: st) := by
  rw [Z_eq] at *
  exact zs_icmp_gt (k := fun p l s m => Z0 g K Q d cN sN m p l s) hd (show ztg pc o (fun t => (y < x → Z0 g K Q d cN sN M t ls st) ∧ (¬ y < x → Z0 g K Q d cN sN M (pc + 3) ls st)) from ztgt ht ⟨kt, kf⟩) (fun _ _ _ _ h => h)
theorem zi_if_gt {o : Int} {tgt : Nat} (hd : decode (zcc K) pc = .ok (.ifCond .gt o, 3)) (ht : (pc : Int) + o = (tgt : Int)) (kt : 0 < x → Z g K Q d cN sN M tgt ls st) (kf : ¬ 0 < x → Z g K Q d cN sN M (pc + 3) ls st) : Z g K Q d cN sN M pc ls (.int x :: st) := by
  rw [Z_eq] at *
  exact zs_if_gt (k := fun p l s m => Z0 g K Q d cN sN m p l s) hd (show ztg pc o (fun t => (0 < x → Z0 g K Q d cN sN M t ls st) ∧ (¬ 0 < x → Z0 g K Q d cN sN M (pc + 3) ls st)) from ztgt ht ⟨kt, kf⟩) (fun _ _ _ _ h => h)
theorem zi_icmp_le {o : Int} {tgt : Nat} (hd : decode (zcc K) pc = .ok (.if_icmp .le o, 3)) (ht : (pc : Int) + o = (tgt : Int)) (kt : x ≤ y → Z g K Q d cN sN M tgt ls st) (kf : ¬ x ≤ y → Z g K Q d cN sN M (pc + 3) ls st) : Z g K Q d cN sN M pc ls (.int y :: .int x :: st) := by
  rw [Z_eq] at *
  exact zs_icmp_le (k := fun p l s m => Z0 g K Q d cN sN m p l s) hd (show ztg pc o (fun t => (x ≤ y → Z0 g K Q d cN sN M t ls st) ∧ (¬ x ≤ y → Z0 g K Q d cN sN M (pc + 3) ls st)) from ztgt ht ⟨kt, kf⟩) (fun _ _ _ _ h => h)
theorem zi_if_le {o : Int} {tgt : Nat} (hd : decode (zcc K) pc = .ok (.ifCond .le o, 3)) (ht : (pc : Int) + o = (tgt : Int)) (kt : x ≤ 0 → Z g K Q d cN sN M tgt ls st) (kf : ¬ x ≤ 0 → Z g K Q d cN sN M (pc + 3) ls st) : Z g K Q d cN sN M pc ls (.int x :: st) := by
  rw [Z_eq] at *
  exact zs_if_le (k := fun p l s m => Z0 g K Q d cN sN m p l s) hd (show ztg pc o (fun t => (x ≤ 0 → Z0 g K Q d cN sN M t ls st) ∧ (¬ x ≤ 0 → Z0 g K Q d cN sN M (pc + 3) ls st)) from ztgt ht ⟨kt, kf⟩) (fun _ _ _ _ h => h)
theorem zi_ifnull {o : Int} {tgt : Nat} {v : Value} (hd : decode (zcc K) pc = .ok (.ifnull o, 3)) (ht : (pc : Int) + o = (tgt : Int)) (hv : zrf v) (kt : v = .null → Z g K Q d cN sN M tgt ls st) (kf : (∃ a, v = .ref a) → Z g K Q d cN sN M (pc + 3) ls st) : Z g K Q d cN sN M pc ls (v :: st) := by
  rw [Z_eq] at *
  exact zs_ifnull (k := fun p l s m => Z0 g K Q d cN sN m p l s) hd (show ztg pc o (fun t => (v = .null ∧ Z0 g K Q d cN sN M t ls st) ∨ ((∃ a, v = .ref a) ∧ Z0 g K Q d cN sN M (pc + 3) ls st)) from ztgt ht (hv.imp (fun e => ⟨e, kt e⟩) (fun e => ⟨e, kf e⟩))) (fun _ _ _ _ h => h)
theorem zi_ifnonnull {o : Int} {tgt : Nat} {v : Value} (hd : decode (zcc K) pc = .ok (.ifnonnull o, 3)) (ht : (pc : Int) + o = (tgt : Int)) (hv : zrf v) (kt : (∃ a, v = .ref a) → Z g K Q d cN sN M tgt ls st) (kf : v = .null → Z g K Q d cN sN M (pc + 3) ls st) : Z g K Q d cN sN M pc ls (v :: st) := by
  rw [Z_eq] at *
  exact zs_ifnonnull (k := fun p l s m => Z0 g K Q d cN sN m p l s) hd (show ztg pc o (fun t => (v = .null ∧ Z0 g K Q d cN sN M (pc + 3) ls st) ∨ ((∃ a, v = .ref a) ∧ Z0 g K Q d cN sN M t ls st)) from ztgt ht (hv.imp (fun e => ⟨e, kf e⟩) (fun e => ⟨e, kt e⟩))) (fun _ _ _ _ h => h)
theorem zi_getfield {n a ci kf : Nat} {ty : FieldType} {md : Nat} {fs : List Value} {v : Value} (hd : decode (zcc K) pc = .ok (.getfield n, 3)) (hf : zfe (zfs K) n = some (ci, kf, ty, md)) (hm : M.1 a = some (.inr (ci, fs))) (hv : fs[kf]? = some v) (kk : Z g K Q d cN sN M (pc + 3) ls (v :: st)) : Z g K Q d cN sN M pc ls (.ref a :: st) := by
  rw [Z_eq] at *
  exact zs_getfield (k := fun p l s m => Z0 g K Q d cN sN m p l s) hd (by show zgf K M n a _; unfold zgf; rw [hf]; dsimp only; rw [hm]; dsimp only; rw [hv]; exact ⟨rfl, kk⟩) (fun _ _ _ _ h => h)
theorem zi_putfield {n a ci kf : Nat} {ty : FieldType} {md : Nat} {fs : List Value} {v : Value} (hd : decode (zcc K) pc = .ok (.putfield n, 3)) (hf : zfe (zfs K) n = some (ci, kf, ty, md)) (hm : M.1 a = some (.inr (ci, fs))) (hl : kf < fs.length) (hv : zfit ty v) (hmd : md = 0 ∨ (md = 2 ∧ zini K = true)) (kk : Z g K Q d cN sN (zup M a (.inr (ci, fs.set kf v))) (pc + 3) ls (st)) : Z g K Q d cN sN M pc ls (v :: .ref a :: st) := by
  rw [Z_eq] at *
  exact zs_putfield (k := fun p l s m => Z0 g K Q d cN sN m p l s) hd (by show zpf K M n a v _; unfold zpf; rw [hf]; dsimp only; rw [hm]; exact ⟨rfl, hl, hv, hmd, kk⟩) (fun _ _ _ _ h => h)
theorem zi_arraylength {a : Nat} {cA : ClassId} {u : vp_A} {t : Nat} {ty : FieldType} (hd : decode (zcc K) pc = .ok (.arraylength, 1)) (hm : M.1 a = some (.inl (cA, u))) (ht : (ztys g)[t]? = some (cA, ty)) (kk : Z g K Q d cN sN M (pc + 1) ls (.int (Int32.ofNat u.1) :: st)) : Z g K Q d cN sN M pc ls (.ref a :: st) := by
  rw [Z_eq] at *
  exact zs_arraylength (k := fun p l s m => Z0 g K Q d cN sN m p l s) hd (by show zaa M a (fun c n => (∃ (t : Nat) (ty : FieldType), (ztys g)[t]? = some (c, ty)) ∧ Z0 g K Q d cN sN M (pc + 1) ls (.int (Int32.ofNat n) :: st)); unfold zaa; rw [hm]; exact ⟨⟨t, ty, ht⟩, kk⟩) (fun _ _ _ _ h => h)
theorem zi_iaload {a n : Nat} {f : Nat → Int32} (hd : decode (zcc K) pc = .ok (.iaload, 1)) (hm : M.1 a = some (.inl (zA g 0, n, .inl f))) (hi : vp_in x n) (kk : Z g K Q d cN sN M (pc + 1) ls (.int (f x.toNatClampNeg) :: st)) : Z g K Q d cN sN M pc ls (.int x :: .ref a :: st) := by
  rw [Z_eq] at *
  exact zs_iaload (k := fun p l s m => Z0 g K Q d cN sN m p l s) hd (by show zai (zA g 0) M a _; unfold zai; rw [hm]; exact ⟨rfl, hi, kk⟩) (fun _ _ _ _ h => h)
theorem zi_caload {a n : Nat} {f : Nat → Int32} (hd : decode (zcc K) pc = .ok (.caload, 1)) (hm : M.1 a = some (.inl (zA g 3, n, .inl f))) (hi : vp_in x n) (kk : Z g K Q d cN sN M (pc + 1) ls (.int (f x.toNatClampNeg) :: st)) : Z g K Q d cN sN M pc ls (.int x :: .ref a :: st) := by
  rw [Z_eq] at *
  exact zs_caload (k := fun p l s m => Z0 g K Q d cN sN m p l s) hd (by show zai (zA g 3) M a _; unfold zai; rw [hm]; exact ⟨rfl, hi, kk⟩) (fun _ _ _ _ h => h)
theorem zi_baload {a n : Nat} {f : Nat → Int32} (hd : decode (zcc K) pc = .ok (.baload, 1)) (hm : M.1 a = some (.inl (zA g 4, n, .inl f))) (hi : vp_in x n) (kk : Z g K Q d cN sN M (pc + 1) ls (.int (f x.toNatClampNeg) :: st)) : Z g K Q d cN sN M pc ls (.int x :: .ref a :: st) := by
  rw [Z_eq] at *
  exact zs_baload (k := fun p l s m => Z0 g K Q d cN sN m p l s) hd (by show zai (zA g 4) M a _; unfold zai; rw [hm]; exact ⟨rfl, hi, kk⟩) (fun _ _ _ _ h => h)
theorem zi_laload {a n : Nat} {f : Nat → Int64} (hd : decode (zcc K) pc = .ok (.laload, 1)) (hm : M.1 a = some (.inl (zA g 1, n, .inr (.inl f)))) (hi : vp_in x n) (kk : Z g K Q d cN sN M (pc + 1) ls (.long (f x.toNatClampNeg) :: st)) : Z g K Q d cN sN M pc ls (.int x :: .ref a :: st) := by
  rw [Z_eq] at *
  exact zs_laload (k := fun p l s m => Z0 g K Q d cN sN m p l s) hd (by show zal (zA g 1) M a _; unfold zal; rw [hm]; exact ⟨rfl, hi, kk⟩) (fun _ _ _ _ h => h)
theorem zi_daload {a n : Nat} {f : Nat → UInt64} (hd : decode (zcc K) pc = .ok (.daload, 1)) (hm : M.1 a = some (.inl (zA g 2, n, .inr (.inr (.inr (.inl f)))))) (hi : vp_in x n) (kk : Z g K Q d cN sN M (pc + 1) ls (.double (f x.toNatClampNeg) :: st)) : Z g K Q d cN sN M pc ls (.int x :: .ref a :: st) := by
  rw [Z_eq] at *
  exact zs_daload (k := fun p l s m => Z0 g K Q d cN sN m p l s) hd (by show zad (zA g 2) M a _; unfold zad; rw [hm]; exact ⟨rfl, hi, kk⟩) (fun _ _ _ _ h => h)
theorem zi_aaload {a n : Nat} {cA : ClassId} {f : Nat → Option Nat} {v : Value} (hd : decode (zcc K) pc = .ok (.aaload, 1)) (hm : M.1 a = some (.inl (cA, n, .inr (.inr (.inr (.inr f)))))) (hc : zRt g cA) (hi : vp_in x n) (hv : va_rf (f x.toNatClampNeg) = v) (kk : Z g K Q d cN sN M (pc + 1) ls (v :: st)) : Z g K Q d cN sN M pc ls (.int x :: .ref a :: st) := by
  rw [Z_eq] at *
  exact zs_aaload (k := fun p l s m => Z0 g K Q d cN sN m p l s) hd (by subst hv; show zar M a _; unfold zar; rw [hm]; exact ⟨hc, hi, kk⟩) (fun _ _ _ _ h => h)
theorem zi_iastore {a n : Nat} {f : Nat → Int32} {w : Int32} (hd : decode (zcc K) pc = .ok (.iastore, 1)) (hm : M.1 a = some (.inl (zA g 0, n, .inl f))) (hi : vp_in x n) (kk : Z g K Q d cN sN (zup M a (.inl (zA g 0, n, .inl (upd f x.toNatClampNeg w)))) (pc + 1) ls (st)) : Z g K Q d cN sN M pc ls (.int w :: .int x :: .ref a :: st) := by
  rw [Z_eq] at *
  exact zs_iastore (k := fun p l s m => Z0 g K Q d cN sN m p l s) hd (by show zai (zA g 0) M a _; unfold zai; rw [hm]; exact ⟨rfl, hi, kk⟩) (fun _ _ _ _ h => h)
theorem zi_castore {a n : Nat} {f : Nat → Int32} {w : Int32} (hd : decode (zcc K) pc = .ok (.castore, 1)) (hm : M.1 a = some (.inl (zA g 3, n, .inl f))) (hi : vp_in x n) (kk : Z g K Q d cN sN (zup M a (.inl (zA g 3, n, .inl (upd f x.toNatClampNeg (vp_nar .char w))))) (pc + 1) ls (st)) : Z g K Q d cN sN M pc ls (.int w :: .int x :: .ref a :: st) := by
  rw [Z_eq] at *
  exact zs_castore (k := fun p l s m => Z0 g K Q d cN sN m p l s) hd (by show zai (zA g 3) M a _; unfold zai; rw [hm]; exact ⟨rfl, hi, kk⟩) (fun _ _ _ _ h => h)
theorem zi_bastore {a n : Nat} {f : Nat → Int32} {w : Int32} (hd : decode (zcc K) pc = .ok (.bastore, 1)) (hm : M.1 a = some (.inl (zA g 4, n, .inl f))) (hi : vp_in x n) (kk : Z g K Q d cN sN (zup M a (.inl (zA g 4, n, .inl (upd f x.toNatClampNeg (vp_nar .byte w))))) (pc + 1) ls (st)) : Z g K Q d cN sN M pc ls (.int w :: .int x :: .ref a :: st) := by
  rw [Z_eq] at *
  exact zs_bastore (k := fun p l s m => Z0 g K Q d cN sN m p l s) hd (by show zai (zA g 4) M a _; unfold zai; rw [hm]; exact ⟨rfl, hi, kk⟩) (fun _ _ _ _ h => h)
theorem zi_lastore {a n : Nat} {f : Nat → Int64} {w : Int64} (hd : decode (zcc K) pc = .ok (.lastore, 1)) (hm : M.1 a = some (.inl (zA g 1, n, .inr (.inl f)))) (hi : vp_in x n) (kk : Z g K Q d cN sN (zup M a (.inl (zA g 1, n, .inr (.inl (vp_updL f x.toNatClampNeg w))))) (pc + 1) ls (st)) : Z g K Q d cN sN M pc ls (.long w :: .int x :: .ref a :: st) := by
  rw [Z_eq] at *
  exact zs_lastore (k := fun p l s m => Z0 g K Q d cN sN m p l s) hd (by show zal (zA g 1) M a _; unfold zal; rw [hm]; exact ⟨rfl, hi, kk⟩) (fun _ _ _ _ h => h)
theorem zi_dastore {a n : Nat} {f : Nat → UInt64} {w : UInt64} (hd : decode (zcc K) pc = .ok (.dastore, 1)) (hm : M.1 a = some (.inl (zA g 2, n, .inr (.inr (.inr (.inl f)))))) (hi : vp_in x n) (kk : Z g K Q d cN sN (zup M a (.inl (zA g 2, n, .inr (.inr (.inr (.inl (vf_upd f x.toNatClampNeg w))))))) (pc + 1) ls (st)) : Z g K Q d cN sN M pc ls (.double w :: .int x :: .ref a :: st) := by
  rw [Z_eq] at *
  exact zs_dastore (k := fun p l s m => Z0 g K Q d cN sN m p l s) hd (by show zad (zA g 2) M a _; unfold zad; rw [hm]; exact ⟨rfl, hi, kk⟩) (fun _ _ _ _ h => h)
theorem zi_ireturn {ty : FieldType} (hd : decode (zcc K) pc = .ok (.ireturn, 1)) (hr : zret K = some ty) (hn : narrow ty (.int x) = .int x) (kk : Q.1 (some (.int x)) M) : Z g K Q d cN sN M pc ls [.int x] := Z_mk <| zs_ireturn (k := fun _ _ _ _ => True) hd ⟨rfl, ⟨ty, hr, hn⟩, kk⟩
theorem zi_freturn {u : UInt32} (hd : decode (zcc K) pc = .ok (.freturn, 1)) (hr : zret K = some .float) (kk : Q.1 (some (.float u)) M) : Z g K Q d cN sN M pc ls [.float u] := Z_mk <| zs_freturn (k := fun _ _ _ _ => True) hd ⟨u, rfl, rfl, hr, kk⟩
theorem zi_dreturn {u : UInt64} (hd : decode (zcc K) pc = .ok (.dreturn, 1)) (hr : zret K = some .double) (kk : Q.1 (some (.double u)) M) : Z g K Q d cN sN M pc ls [.double u] := Z_mk <| zs_dreturn (k := fun _ _ _ _ => True) hd ⟨u, rfl, rfl, hr, kk⟩
theorem zi_areturn {v : Value} {ty : FieldType} (hd : decode (zcc K) pc = .ok (.areturn, 1)) (hv : zrf v) (hr : zret K = some ty) (hn : (∃ n, ty = .object n) ∨ ∃ t, ty = .array t) (kk : Q.1 (some v) M) : Z g K Q d cN sN M pc ls [v] := Z_mk <| zs_areturn (k := fun _ _ _ _ => True) hd ⟨hv, rfl, ⟨ty, hr, hn⟩, kk⟩
theorem zi_return (hd : decode (zcc K) pc = .ok (.return_, 1)) (hr : zret K = none) (kk : Q.1 none M) : Z g K Q d cN sN M pc ls [] := Z_mk <| zs_vreturn (k := fun _ _ _ _ => True) hd ⟨rfl, hr, kk⟩
theorem zfit_i {x : Int32} : zfit .int (.int x) := ⟨rfl, rfl⟩
theorem zfit_r {C : String} {v : Value} (h : zrf v) : zfit (.object C) v := by rcases h with rfl | ⟨a, rfl⟩ <;> exact ⟨rfl, rfl⟩
theorem zfit_a {t : FieldType} {v : Value} (h : zrf v) : zfit (.array t) v := by rcases h with rfl | ⟨a, rfl⟩ <;> exact ⟨rfl, rfl⟩
theorem zfit_z {x : Int32} (h : x = 0 ∨ x = 1) : zfit .boolean (.int x) := by rcases h with rfl | rfl <;> exact ⟨by decide +kernel, by decide +kernel⟩
theorem znar_z {x : Int32} (h : x = 0 ∨ x = 1) : narrow .boolean (.int x) = .int x := by rcases h with rfl | rfl <;> decide +kernel
theorem zup_self (M : ZM) (a : Nat) (e : va_E) : (zup M a e).1 a = some e := if_pos rfl
theorem zup_ne (M : ZM) {a b : Nat} (e : va_E) (h : b ≠ a) : (zup M a e).1 b = M.1 b := if_neg h
end ZI
