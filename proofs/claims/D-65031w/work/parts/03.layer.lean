/-! the layer: an abstract heap (address ↦ cell, and its size), frames with explicit locals, one row an instruction -/
/-- abstract heap: cells and size -/
abbrev AH : Type := (Nat → Option va_E) × Nat
/-- the context: classes' numbers and slots; numbers (0 int[], 1 long[], 2 Object[], 3 base of the heap, 4 the empty list's array, 5 the mirror of Object[]); the old cells -/
abbrev KC : Type := va_G × (Nat → Nat) × (Nat → Option Cell)
abbrev kI (K : KC) : Nat := K.2.1 0
abbrev kJ (K : KC) : Nat := K.2.1 1
abbrev kR (K : KC) : Nat := K.2.1 2
abbrev kB (K : KC) : Nat := K.2.1 3
abbrev kE (K : KC) : Nat := K.2.1 4
abbrev kM (K : KC) : Nat := K.2.1 5
/-- ints and longs by their numbers -/
def iv (z : Int) : Value := .int (Int32.ofInt z)
def jv (z : Int) : Value := .long (Int64.ofInt z)
def bz (b : Bool) : Int := if b then 1 else 0
/-- cells -/
def oI (K : KC) (n : Nat) (f : Int → Int) : va_E := .inl (kI K, (n, .inl (fun j => Int32.ofInt (f (j : Int)))))
def oJ (K : KC) (n : Nat) (f : Int → Int) : va_E := .inl (kJ K, (n, .inr (.inl (fun j => Int64.ofInt (f (j : Int))))))
def oR (K : KC) (n : Nat) (g : Nat → Option Nat) : va_E := .inl (kR K, (n, .inr (.inr (.inr (.inr g)))))
abbrev oO (ci : Nat) (fs : List Value) : va_E := .inr (ci, fs)
def up (f : Int → Int) (k x : Int) : Int → Int := fun j => if j = k then x else f j
theorem up_s {f : Int → Int} {k x : Int} : up f k x k = x := if_pos rfl
theorem up_n {f : Int → Int} {k x j : Int} (h : j ≠ k) : up f k x j = f j := if_neg h
def ups (M : AH) (a : Nat) (e : va_E) : AH := (fun q => if q = a then some e else M.1 q, M.2)
def nws (M : AH) (e : va_E) : AH := (fun q => if q = M.2 then some e else M.1 q, M.2 + 1)
theorem ups_s {M : AH} {a : Nat} {e : va_E} : (ups M a e).1 a = some e := if_pos rfl
theorem ups_n {M : AH} {a q : Nat} {e : va_E} (h : q ≠ a) : (ups M a e).1 q = M.1 q := if_neg h
theorem ups_2 {M : AH} {a : Nat} {e : va_E} : (ups M a e).2 = M.2 := rfl
theorem nws_s {M : AH} {e : va_E} : (nws M e).1 M.2 = some e := if_pos rfl
theorem nws_n {M : AH} {q : Nat} {e : va_E} (h : q ≠ M.2) : (nws M e).1 q = M.1 q := if_neg h
theorem nws_2 {M : AH} {e : va_E} : (nws M e).2 = M.2 + 1 := rfl
/-- the heap holds the abstract heap; below the base nothing has changed -/
def hd (K : KC) (M : AH) (H : Heap) : Prop := H.size = M.2 ∧ kB K ≤ M.2 ∧ (∀ q, q < kB K → H[q]? = K.2.2 q) ∧ (∀ q e, M.1 q = some e → q < M.2 ∧ (kB K ≤ q ∨ e = oR K 0 (fun _ => none)) ∧ va_at K.1 classes (q, e) H)
theorem hd_ups {K : KC} {M : AH} {H H1 : Heap} {a : Nat} {e0 e : va_E} (h : hd K M H) (ha : M.1 a = some e0) (hb : kB K ≤ a) (he : va_at K.1 classes (a, e) H1) (hz : H1.size = H.size) (ho : ∀ q, q ≠ a → H1[q]? = H[q]?) : hd K (ups M a e) H1 := by
  obtain ⟨h1, h2, h3, h4⟩ := h
  refine ⟨hz.trans h1, h2, fun q hq => ?_, fun q x hx => ?_⟩
  · rw [ho q (by omega)]; exact h3 q hq
  · by_cases hqa : q = a
    · subst hqa
      rw [ups_s] at hx
      cases hx
      exact ⟨(h4 q e0 ha).1, Or.inl hb, he⟩
    · rw [ups_n hqa] at hx
      obtain ⟨g1, g2, g3⟩ := h4 q x hx
      exact ⟨g1, g2, g3.kept (ho q hqa)⟩
theorem hd_nws {K : KC} {M : AH} {H H1 : Heap} {e : va_E} (h : hd K M H) (he : va_at K.1 classes (M.2, e) H1) (hz : H1.size = M.2 + 1) (ho : ∀ q, q < M.2 → H1[q]? = H[q]?) : hd K (nws M e) H1 := by
  obtain ⟨h1, h2, h3, h4⟩ := h
  refine ⟨hz, by rw [nws_2]; omega, fun q hq => ?_, fun q x hx => ?_⟩
  · rw [ho q (by omega)]; exact h3 q hq
  · by_cases hqa : q = M.2
    · subst hqa
      rw [nws_s] at hx
      cases hx
      exact ⟨by rw [nws_2]; omega, Or.inl h2, he⟩
    · rw [nws_n hqa] at hx
      obtain ⟨g1, g2, g3⟩ := h4 q x hx
      exact ⟨by rw [nws_2]; omega, g2, g3.kept (ho q g1)⟩
/-- the locals, place by place -/
def lp : Nat → List (Option Value) → List (Nat × Value)
  | _, [] => []
  | i, none :: L => lp (i + 1) L
  | i, some v :: L => (i, v) :: lp (i + 1) L
def lo (ls : Array Slot) (nL : Nat) (L : List (Option Value)) : Prop := lv_has ls nL (lp 0 L)
theorem lp_mem : ∀ (L : List (Option Value)) (i k : Nat) (v : Value), L[k]? = some (some v) → (i + k, v) ∈ lp i L
  | [], i, k, v, h => by simp at h
  | none :: L, i, 0, v, h => by simp at h
  | none :: L, i, k + 1, v, h => by
    have := lp_mem L (i + 1) k v (by simpa using h)
    rw [show i + (k + 1) = i + 1 + k by omega]; exact this
  | some w :: L, i, 0, v, h => by
    simp at h; subst h; exact List.mem_cons_self
  | some w :: L, i, k + 1, v, h => by
    have := lp_mem L (i + 1) k v (by simpa using h)
    rw [show i + (k + 1) = i + 1 + k by omega]; exact List.mem_cons_of_mem _ this
theorem lp_of : ∀ (L : List (Option Value)) (i : Nat) (q : Nat × Value), q ∈ lp i L → ∃ k, q.1 = i + k ∧ L[k]? = some (some q.2)
  | [], i, q, h => by simp [lp] at h
  | none :: L, i, q, h => by
    obtain ⟨k, h1, h2⟩ := lp_of L (i + 1) q h
    exact ⟨k + 1, by omega, by simpa using h2⟩
  | some w :: L, i, q, h => by
    rcases List.mem_cons.mp h with h | h
    · subst h; exact ⟨0, rfl, rfl⟩
    · obtain ⟨k, h1, h2⟩ := lp_of L (i + 1) q h
      exact ⟨k + 1, by omega, by simpa using h2⟩
theorem lo_at {ls : Array Slot} {nL : Nat} {L : List (Option Value)} (h : lo ls nL L) {k : Nat} {v : Value} (hk : L[k]? = some (some v)) : ls[k]? = some (.val v) := by
  have := h.2.2 (0 + k, v) (lp_mem L 0 k v hk)
  rw [Nat.zero_add] at this; exact this
theorem lo_sub {ls : Array Slot} {nL : Nat} {lv : List (Nat × Value)} {L : List (Option Value)} (h : lv_has ls nL lv) (hs : ∀ (k : Nat) (v : Value), L[k]? = some (some v) → (k, v) ∈ lv) : lo ls nL L :=
  ⟨h.1, h.2.1, fun q hq => by
    obtain ⟨k, h1, h2⟩ := lp_of L 0 q hq
    have e : q = (k, q.2) := by rw [← Nat.zero_add k, ← h1]
    rw [e]; exact h.2.2 _ (hs k q.2 h2)⟩
theorem lo_wk {ls : Array Slot} {nL : Nat} {L L' : List (Option Value)} (h : lo ls nL L) (hs : ∀ (k : Nat) (v : Value), L'[k]? = some (some v) → L[k]? = some (some v)) : lo ls nL L' :=
  lo_sub h (fun k v hk => by have := lp_mem L 0 k v (hs k v hk); rw [Nat.zero_add] at this; exact this)
/-- the place ahead holds no long -/
def ncl : List (Option Value) → Bool
  | [] => true
  | [some (.long _)] => false
  | [some (.double _)] => false
  | [_] => true
  | _ :: a :: l => ncl (a :: l)
theorem ncl_spec : ∀ (pre : List (Option Value)) (k : Nat) (v : Value), ncl pre = true → pre[k]? = some (some v) → k + 1 = pre.length → v.category = 1
  | [], k, v, _, h, _ => by simp at h
  | [a], 0, v, hn, h, _ => by
    simp at h; subst h
    cases v <;> first | rfl | simp [ncl] at hn
  | [a], k + 1, v, _, h, _ => by simp at h
  | a :: b :: l, 0, v, _, _, hl => by simp at hl
  | a :: b :: l, k + 1, v, hn, h, hl => ncl_spec (b :: l) k v (by simpa [ncl] using hn) (by simpa using h) (by simpa using hl)
theorem st_sub1 {pre post : List (Option Value)} {a : Option Value} {v : Value} (hp : ncl pre = true) : ∀ (k : Nat) (w : Value), (pre ++ some v :: post)[k]? = some (some w) → (k, w) ∈ (pre.length, v) :: (lp 0 (pre ++ a :: post)).filter (fun q => !(q.1 == pre.length) && !(q.1 + 1 == pre.length && q.2.category == 2)) := by
  intro k w hk
  by_cases h1 : k = pre.length
  · subst h1
    simp at hk
    subst hk
    exact List.mem_cons_self
  · have hk' : (pre ++ a :: post)[k]? = some (some w) := by
      by_cases h2 : k < pre.length
      · rw [List.getElem?_append_left h2] at hk ⊢; exact hk
      · rw [List.getElem?_append_right (by omega)] at hk ⊢
        obtain ⟨j, hj⟩ : ∃ j, k - pre.length = j + 1 := ⟨k - pre.length - 1, by omega⟩
        rw [hj] at hk ⊢
        simpa using hk
    refine List.mem_cons_of_mem _ (List.mem_filter.mpr ⟨?_, ?_⟩)
    · have := lp_mem _ 0 k w hk'; rw [Nat.zero_add] at this; exact this
    · by_cases h3 : k + 1 = pre.length
      · have h4 : pre[k]? = some (some w) := by
          rw [List.getElem?_append_left (by omega)] at hk; exact hk
        have := ncl_spec pre k w hp h4 h3
        simp [h1, this]
      · simp [h1, h3]
theorem st_sub2 {pre post : List (Option Value)} {a b : Option Value} {v : Value} (hp : ncl pre = true) : ∀ (k : Nat) (w : Value), (pre ++ some v :: none :: post)[k]? = some (some w) → (k, w) ∈ (pre.length, v) :: (lp 0 (pre ++ a :: b :: post)).filter (fun q => !(q.1 == pre.length) && (!(q.1 == pre.length + 1) && !(q.1 + 1 == pre.length && q.2.category == 2))) := by
  intro k w hk
  by_cases h1 : k = pre.length
  · subst h1
    simp at hk
    subst hk
    exact List.mem_cons_self
  · by_cases h5 : k = pre.length + 1
    · subst h5
      rw [List.getElem?_append_right (by omega)] at hk
      simp at hk
    · have hk' : (pre ++ a :: b :: post)[k]? = some (some w) := by
        by_cases h2 : k < pre.length
        · rw [List.getElem?_append_left h2] at hk ⊢; exact hk
        · rw [List.getElem?_append_right (by omega)] at hk ⊢
          obtain ⟨j, hj⟩ : ∃ j, k - pre.length = j + 2 := ⟨k - pre.length - 2, by omega⟩
          rw [hj] at hk ⊢
          simpa using hk
      refine List.mem_cons_of_mem _ (List.mem_filter.mpr ⟨?_, ?_⟩)
      · have := lp_mem _ 0 k w hk'; rw [Nat.zero_add] at this; exact this
      · by_cases h3 : k + 1 = pre.length
        · have h4 : pre[k]? = some (some w) := by
            rw [List.getElem?_append_left (by omega)] at hk; exact hk
          have := ncl_spec pre k w hp h4 h3
          simp [h1, h5, this]
        · simp [h1, h3, h5]
/-- what the tables and the old heap say, for every state whose tables are alike -/
def KS (K : KC) (P : State → Prop) (U : State) : Prop := ∀ V : State, U.vm.Alike V.vm → (∀ q, q < kB K → V.heap[q]? = K.2.2 q) → kB K ≤ V.heap.size → P V
def KOk (K : KC) (U : State) : Prop := va_K K.1 classes [(kI K, .int), (kJ K, .long), (kR K, .object "java/lang/Object")] U ∧
  KS K (fun V => va_Z "java/util/ArrayList" "DEFAULTCAPACITY_EMPTY_ELEMENTDATA" "[Ljava/lang/Object;" (.ref (kE K)) (fun q => kB K ≤ q) V V.heap) U ∧
  KS K (fun V => ∀ A : Array Value, (Cond.isRef (.static "java/lang/Throwable" "UNASSIGNED_STACK" "[Ljava/lang/StackTraceElement;")).before A V = true ∧ (Cond.isRef (.static "java/lang/Throwable" "SUPPRESSED_SENTINEL" "Ljava/util/List;")).before A V = true ∧ (Cond.laysStatic "java/lang/Throwable" "UNASSIGNED_STACK" "[Ljava/lang/StackTraceElement;").before A V = true ∧ (Cond.laysStatic "java/lang/Throwable" "SUPPRESSED_SENTINEL" "Ljava/util/List;").before A V = true) U ∧
  KS K (fun V => va_Mi "[Ljava/lang/Object;" (kM K) V) U ∧ KS K (fun V => va_Nw (.not (.castable "java/lang/IllegalArgumentException" "java/lang/ArithmeticException")) V ∧ va_Nw (.not (.castable "java/lang/ArithmeticException" "java/lang/IndexOutOfBoundsException")) V ∧ va_Nw (.not (.castable "java/lang/IllegalArgumentException" "java/lang/IndexOutOfBoundsException")) V) U
theorem KS.moved {K : KC} {P : State → Prop} {u U : State} (hvm : u.vm.Alike U.vm) (h : KS K P u) : KS K P U := fun V hV => h V (hvm.trans hV)
theorem KOk.moved {K : KC} {u U : State} (hvm : u.vm.Alike U.vm) (h : KOk K u) : KOk K U := ⟨h.1.moved hvm, h.2.1.moved hvm, h.2.2.1.moved hvm, h.2.2.2.1.moved hvm, h.2.2.2.2.moved hvm⟩
/-- one walk's constants -/
abbrev CT : Type := (Program × Launch × Env × Room × State) × (MethodId × Array Value × List Frame × Method × Code) × (KC × Nat × (State → Prop))
abbrev CT.p (X : CT) : Program := X.1.1
abbrev CT.l (X : CT) : Launch := X.1.2.1
abbrev CT.e (X : CT) : Env := X.1.2.2.1
abbrev CT.R (X : CT) : Room := X.1.2.2.2.1
abbrev CT.s (X : CT) : State := X.1.2.2.2.2
abbrev CT.m (X : CT) : MethodId := X.2.1.1
abbrev CT.args (X : CT) : Array Value := X.2.1.2.1
abbrev CT.below (X : CT) : List Frame := X.2.1.2.2.1
abbrev CT.meth (X : CT) : Method := X.2.1.2.2.2.1
abbrev CT.c (X : CT) : Code := X.2.1.2.2.2.2
abbrev CT.K (X : CT) : KC := X.2.2.1
abbrev CT.nL (X : CT) : Nat := X.2.2.2.1
abbrev CT.Q (X : CT) : State → Prop := X.2.2.2.2
/-- the walk's facts -/
def Cx (X : CT) (own : String) (cc : ByteArray) (rt : Option FieldType) (nm : String) (hh : Bool) : Prop :=
  X.p.tables.exec = Jvm.exec ∧ X.c.code = cc ∧ X.c.maxLocals = X.nL ∧ X.s.vm.findClass own = some X.m.cls ∧ (∀ w ∈ TBL, w.before X.args X.s = true) ∧ KOk X.K X.s ∧ X.meth.locks = false ∧ X.meth.sig.returnType = rt ∧ X.meth.name = nm ∧ kB X.K ≤ X.s.heap.size ∧ (hh = false → X.c.exceptionTable.isEmpty = true)
/-- the goal: from this frame, over every heap that holds M -/
def G (X : CT) (cs sl : Nat) (M : AH) (pc : Nat) (L : List (Option Value)) (st : List Value) : Prop :=
  ∀ (H : Heap) (locs : List Loc) (ls : Array Slot), hd X.K M H → (∀ x ∈ locs, kB X.K ≤ x.base) → lo ls X.nL L → W X.p X.l X.e X.R X.s X.m X.args X.below X.meth X.c H locs cs sl X.Q (F0 X.m pc ls st)
def dn (cc : ByteArray) (pc : Nat) (i : Instr) (len pc' : Nat) : Prop := decode cc pc = .ok (i, len) ∧ pc + len = pc'
def db (cc : ByteArray) (pc : Nat) (mk : Int → Instr) (tgt pc' : Nat) : Prop := ∃ off : Int, decode cc pc = .ok (mk off, 3) ∧ (pc : Int) + off = (tgt : Int) ∧ pc + 3 = pc'
def I32 (a : Int) : Prop := -2147483648 ≤ a ∧ a ≤ 2147483647
def I64 (a : Int) : Prop := -9223372036854775808 ≤ a ∧ a ≤ 9223372036854775807
/-! numbers -/
theorem ti32 {a : Int} (h : I32 a) : (Int32.ofInt a).toInt = a := Int32.toInt_ofInt_of_le (by have := h.1; omega) (by have := h.2; omega)
theorem ti64 {a : Int} (h : I64 a) : (Int64.ofInt a).toInt = a := Int64.toInt_ofInt_of_le (by have := h.1; omega) (by have := h.2; omega)
theorem i_lt {a b : Int} (ha : I32 a) (hb : I32 b) : Int32.ofInt a < Int32.ofInt b ↔ a < b := by rw [Int32.lt_iff_toInt_lt, ti32 ha, ti32 hb]
theorem i_le {a b : Int} (ha : I32 a) (hb : I32 b) : Int32.ofInt a ≤ Int32.ofInt b ↔ a ≤ b := by rw [Int32.le_iff_toInt_le, ti32 ha, ti32 hb]
theorem i_eq {a b : Int} (ha : I32 a) (hb : I32 b) : Int32.ofInt a = Int32.ofInt b ↔ a = b := by rw [← Int32.toInt_inj, ti32 ha, ti32 hb]
theorem l_lt {a b : Int} (ha : I64 a) (hb : I64 b) : Int64.ofInt a < Int64.ofInt b ↔ a < b := by rw [Int64.lt_iff_toInt_lt, ti64 ha, ti64 hb]
theorem l_eq {a b : Int} (ha : I64 a) (hb : I64 b) : Int64.ofInt a = Int64.ofInt b ↔ a = b := by rw [← Int64.toInt_inj, ti64 ha, ti64 hb]
theorem i0 : I32 0 := by unfold I32; omega
theorem j0 : I64 0 := by unfold I64; omega
theorem z32 : Int32.ofInt 0 = 0 := by decide
theorem z64 : Int64.ofInt 0 = 0 := by decide
theorem i_lt0 {a : Int} (ha : I32 a) : Int32.ofInt a < 0 ↔ a < 0 := by rw [← z32]; exact i_lt ha i0
theorem i_0lt {a : Int} (ha : I32 a) : 0 < Int32.ofInt a ↔ 0 < a := by rw [← z32]; exact i_lt i0 ha
theorem i_le0 {a : Int} (ha : I32 a) : Int32.ofInt a ≤ 0 ↔ a ≤ 0 := by rw [← z32]; exact i_le ha i0
theorem i_0le {a : Int} (ha : I32 a) : 0 ≤ Int32.ofInt a ↔ 0 ≤ a := by rw [← z32]; exact i_le i0 ha
theorem i_eq0 {a : Int} (ha : I32 a) : Int32.ofInt a = 0 ↔ a = 0 := by rw [← z32]; exact i_eq ha i0
theorem cl32 {a : Int} (h0 : 0 ≤ a) (h : a ≤ 2147483647) : (Int32.ofInt a).toNatClampNeg = a.toNat := by
  show (Int32.ofInt a).toInt.toNat = a.toNat
  rw [ti32 ⟨by omega, h⟩]
theorem vin {i : Int} {n : Nat} (h0 : 0 ≤ i) (h : i < n) (hn : n ≤ 2147483647) : vp_in (Int32.ofInt i) n := by
  unfold vp_in
  rw [i_lt0 ⟨by omega, by omega⟩, cl32 h0 (by omega)]
  omega
theorem i2l_ok {a : Int} (h : I32 a) : (Int32.ofInt a).toInt64 = Int64.ofInt a := by
  apply Int64.toInt_inj.mp
  rw [Int32.toInt_toInt64, ti32 h, ti64 ⟨by have := h.1; omega, by have := h.2; omega⟩]
theorem l2i_ok (a : Int) : (Int64.ofInt a).toInt32 = Int32.ofInt a := by
  simp
theorem iadd_ok (a b : Int) : Int32.ofInt a + Int32.ofInt b = Int32.ofInt (a + b) := by rw [Int32.ofInt_add]
theorem isub_ok (a b : Int) : Int32.ofInt a - Int32.ofInt b = Int32.ofInt (a - b) := by rw [Int32.ofInt_sub]
theorem imul_ok (a b : Int) : Int32.ofInt a * Int32.ofInt b = Int32.ofInt (a * b) := by rw [Int32.ofInt_mul]
theorem ineg_ok (a : Int) : -Int32.ofInt a = Int32.ofInt (-a) := by rw [Int32.ofInt_neg]
theorem ladd_ok (a b : Int) : Int64.ofInt a + Int64.ofInt b = Int64.ofInt (a + b) := by rw [Int64.ofInt_add]
theorem lsub_ok (a b : Int) : Int64.ofInt a - Int64.ofInt b = Int64.ofInt (a - b) := by rw [Int64.ofInt_sub]
theorem lmul_ok (a b : Int) : Int64.ofInt a * Int64.ofInt b = Int64.ofInt (a * b) := by rw [Int64.ofInt_mul]
theorem lneg_ok (a : Int) : -Int64.ofInt a = Int64.ofInt (-a) := by rw [Int64.ofInt_neg]
theorem idiv_ok {a b : Int} (ha : I32 a) (hb : I32 b) (hb0 : 0 < b) : Int32.ofInt a / Int32.ofInt b = Int32.ofInt (a.tdiv b) := by
  have h3 : Int32.ofInt b ≠ -1 := by
    intro h; have := congrArg Int32.toInt h; rw [ti32 hb] at this; simp at this; omega
  apply Int32.toInt_inj.mp
  rw [Int32.toInt_div_of_ne_right _ _ h3, ti32 ha, ti32 hb, ti32]
  have h1 := ha.1
  have h2 := ha.2
  rcases Int.le_total 0 a with h | h
  · have := Int.tdiv_nonneg h (Int.le_of_lt hb0)
    have h5 : a.tdiv b ≤ a := Int.tdiv_le_self b h
    exact ⟨by omega, by omega⟩
  · have h6 : (-a).tdiv b ≤ -a := Int.tdiv_le_self b (by omega)
    have h7 : 0 ≤ (-a).tdiv b := Int.tdiv_nonneg (by omega) (Int.le_of_lt hb0)
    rw [Int.neg_tdiv] at h6 h7
    exact ⟨by omega, by omega⟩
theorem ldiv_ok {a b : Int} (ha : I64 a) (hb : I64 b) (hb0 : 0 < b) : Int64.ofInt a / Int64.ofInt b = Int64.ofInt (a.tdiv b) := by
  have h3 : Int64.ofInt b ≠ -1 := by
    intro h; have := congrArg Int64.toInt h; rw [ti64 hb] at this; simp at this; omega
  apply Int64.toInt_inj.mp
  rw [Int64.toInt_div_of_ne_right _ _ h3, ti64 ha, ti64 hb, ti64]
  have h1 := ha.1
  have h2 := ha.2
  rcases Int.le_total 0 a with h | h
  · have := Int.tdiv_nonneg h (Int.le_of_lt hb0)
    have h5 : a.tdiv b ≤ a := Int.tdiv_le_self b h
    exact ⟨by omega, by omega⟩
  · have h6 : (-a).tdiv b ≤ -a := Int.tdiv_le_self b (by omega)
    have h7 : 0 ≤ (-a).tdiv b := Int.tdiv_nonneg (by omega) (Int.le_of_lt hb0)
    rw [Int.neg_tdiv] at h6 h7
    exact ⟨by omega, by omega⟩
theorem irem_ok {a b : Int} (ha : I32 a) (hb : I32 b) (hb0 : 0 < b) : Int32.ofInt a - Int32.ofInt a / Int32.ofInt b * Int32.ofInt b = Int32.ofInt (a.tmod b) := by
  rw [idiv_ok ha hb hb0, imul_ok, isub_ok]
  congr 1
  rw [Int.tmod_def, Int.mul_comm]
theorem lrem_ok {a b : Int} (ha : I64 a) (hb : I64 b) (hb0 : 0 < b) : Int64.ofInt a - Int64.ofInt a / Int64.ofInt b * Int64.ofInt b = Int64.ofInt (a.tmod b) := by
  rw [ldiv_ok ha hb hb0, lmul_ok, lsub_ok]
  congr 1
  rw [Int.tmod_def, Int.mul_comm]
theorem ine0 {b : Int} (hb : I32 b) (hb0 : 0 < b) : ¬ Int32.ofInt b = 0 := by rw [i_eq0 hb]; omega
theorem lne0 {b : Int} (hb : I64 b) (hb0 : 0 < b) : ¬ Int64.ofInt b = 0 := by rw [← z64, l_eq hb j0]; omega
