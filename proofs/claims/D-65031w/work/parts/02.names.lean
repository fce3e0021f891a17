def R_Whole : String := "MetreFractions$Whole"
def R_Frac : String := "MetreFractions$Fraction"
def R_Desk : String := "MetreFractions$Desk"
def R_Row : String := "MetreFractions$Row"
def R_Comp : String := "MetreFractions"
def R_Mdl : String := "MetreFractionsModel"
def R_AL : String := "java/util/ArrayList"
def R_Law : String := "MetreFractionsLaw"
def R_Obj : String := "java/lang/Object"
def R_ABL : String := "java/util/AbstractList"
def R_ABC : String := "java/util/AbstractCollection"
def R_Arrs : String := "java/util/Arrays"
def R_Math : String := "java/lang/Math"
def R_Int : String := "java/lang/Integer"
def R_Objs : String := "java/util/Objects"
def R_Prec : String := "jdk/internal/util/Preconditions"
def R_ASup : String := "jdk/internal/util/ArraysSupport"
def R_Thr : String := "java/lang/Throwable"
def R_Exc : String := "java/lang/Exception"
def R_RtE : String := "java/lang/RuntimeException"
def R_ArE : String := "java/lang/ArithmeticException"
def R_IaE : String := "java/lang/IllegalArgumentException"
def R_IoE : String := "java/lang/IndexOutOfBoundsException"
def R_AiE : String := "java/lang/ArrayIndexOutOfBoundsException"
def R_Str : String := "java/lang/String"
def R_Sys : String := "java/lang/System"
def R_Col : String := "java/util/Collection"
def F_Whole : u_T := fun k => match k with
  | 0 => ("MetreFractions$Whole", "limb", "[I", true)
  | _ => ("MetreFractions$Whole", "size", "I", false)
def t_Whole : Nat → FieldType := fun k => match k with
  | 0 => (.array .int)
  | _ => .int
def F_Frac : u_T := fun k => match k with
  | 0 => ("MetreFractions$Fraction", "above", "LMetreFractions$Whole;", true)
  | 1 => ("MetreFractions$Fraction", "below", "LMetreFractions$Whole;", true)
  | 2 => ("MetreFractions$Fraction", "minus", "Z", false)
  | _ => ("MetreFractions$Fraction", "unit", "I", false)
def t_Frac : Nat → FieldType := fun k => match k with
  | 0 => (.object "MetreFractions$Whole")
  | 1 => (.object "MetreFractions$Whole")
  | 2 => .boolean
  | _ => .int
def F_Desk : u_T := fun k => match k with
  | 0 => ("MetreFractions$Desk", "made", "LMetreFractions$Fraction;", true)
  | 1 => ("MetreFractions$Desk", "x", "LMetreFractions$Whole;", true)
  | 2 => ("MetreFractions$Desk", "y", "LMetreFractions$Whole;", true)
  | 3 => ("MetreFractions$Desk", "quotient", "LMetreFractions$Whole;", true)
  | 4 => ("MetreFractions$Desk", "scaled", "LMetreFractions$Whole;", true)
  | _ => ("MetreFractions$Desk", "help", "LMetreFractions$Fraction;", true)
def t_Desk : Nat → FieldType := fun k => match k with
  | 0 => (.object "MetreFractions$Fraction")
  | 1 => (.object "MetreFractions$Whole")
  | 2 => (.object "MetreFractions$Whole")
  | 3 => (.object "MetreFractions$Whole")
  | 4 => (.object "MetreFractions$Whole")
  | _ => (.object "MetreFractions$Fraction")
def F_Row : u_T := fun k => match k with
  | 0 => ("MetreFractions$Row", "places", "Ljava/util/ArrayList;", true)
  | _ => ("MetreFractions$Row", "heights", "Ljava/util/ArrayList;", true)
def t_Row : Nat → FieldType := fun k => match k with
  | 0 => (.object "java/util/ArrayList")
  | _ => (.object "java/util/ArrayList")
def F_Comp : u_T := fun k => match k with
  | 0 => ("MetreFractions", "values", "Ljava/util/ArrayList;", true)
  | 1 => ("MetreFractions", "spare", "Ljava/util/ArrayList;", true)
  | 2 => ("MetreFractions", "rows", "Ljava/util/ArrayList;", true)
  | 3 => ("MetreFractions", "weights", "[I", true)
  | 4 => ("MetreFractions", "weightCount", "I", false)
  | _ => ("MetreFractions", "desk", "LMetreFractions$Desk;", true)
def t_Comp : Nat → FieldType := fun k => match k with
  | 0 => (.object "java/util/ArrayList")
  | 1 => (.object "java/util/ArrayList")
  | 2 => (.object "java/util/ArrayList")
  | 3 => (.array .int)
  | 4 => .int
  | _ => (.object "MetreFractions$Desk")
def F_Mdl : u_T := fun k => match k with
  | 0 => ("MetreFractionsModel", "thrown", "I", false)
  | 1 => ("MetreFractionsModel", "values", "I", false)
  | 2 => ("MetreFractionsModel", "sign", "I", false)
  | 3 => ("MetreFractionsModel", "sign2", "I", false)
  | 4 => ("MetreFractionsModel", "rows", "I", false)
  | 5 => ("MetreFractionsModel", "weights", "I", false)
  | 6 => ("MetreFractionsModel", "keptTop", "I", false)
  | 7 => ("MetreFractionsModel", "keptBottom", "I", false)
  | 8 => ("MetreFractionsModel", "keptSign", "I", false)
  | 9 => ("MetreFractionsModel", "signs", "[I", true)
  | 10 => ("MetreFractionsModel", "units", "[I", true)
  | 11 => ("MetreFractionsModel", "store", "[I", true)
  | 12 => ("MetreFractionsModel", "sizes", "[I", true)
  | 13 => ("MetreFractionsModel", "limbs", "[I", true)
  | 14 => ("MetreFractionsModel", "size", "[I", true)
  | 15 => ("MetreFractionsModel", "corners", "[I", true)
  | 16 => ("MetreFractionsModel", "places", "[I", true)
  | 17 => ("MetreFractionsModel", "heights", "[I", true)
  | 18 => ("MetreFractionsModel", "weight", "[J", true)
  | 19 => ("MetreFractionsModel", "shares", "[J", true)
  | 20 => ("MetreFractionsModel", "rests", "[J", true)
  | _ => ("MetreFractionsModel", "kept", "[I", true)
def t_Mdl : Nat → FieldType := fun k => match k with
  | 0 => .int
  | 1 => .int
  | 2 => .int
  | 3 => .int
  | 4 => .int
  | 5 => .int
  | 6 => .int
  | 7 => .int
  | 8 => .int
  | 9 => (.array .int)
  | 10 => (.array .int)
  | 11 => (.array .int)
  | 12 => (.array .int)
  | 13 => (.array .int)
  | 14 => (.array .int)
  | 15 => (.array .int)
  | 16 => (.array .int)
  | 17 => (.array .int)
  | 18 => (.array .long)
  | 19 => (.array .long)
  | 20 => (.array .long)
  | _ => (.array .int)
def F_AL : u_T := fun k => match k with
  | 0 => ("java/util/ArrayList", "elementData", "[Ljava/lang/Object;", false)
  | 1 => ("java/util/ArrayList", "size", "I", false)
  | _ => ("java/util/AbstractList", "modCount", "I", false)
def t_AL : Nat → FieldType := fun k => match k with
  | 0 => (.array (.object "java/lang/Object"))
  | 1 => .int
  | _ => .int
abbrev classes : List vw_C := [(R_Whole, F_Whole, 2), (R_Frac, F_Frac, 4), (R_Desk, F_Desk, 6), (R_Row, F_Row, 2), (R_Comp, F_Comp, 6), (R_Mdl, F_Mdl, 22), (R_AL, F_AL, 3)]
/-- the words that stay true under warmer tables -/
def kw (w : Cond) : Bool := match w with | .laysStatic .. => false | .interfaceEntry .. => false | _ => true
def TBL : List Cond := lw_tbl.filter kw
theorem tbk {w : Cond} (h : w ∈ lw_tbl) (hk : kw w = true) : w ∈ TBL := List.mem_filter.mpr ⟨h, hk⟩
theorem tb1 (i : Nat) {w : Cond} (h : tables_1_1[i]? = some w) (hk : kw w = true := by rfl) : w ∈ TBL := tbk (List.mem_append_right _ (List.mem_append_left _ (List.mem_of_getElem? h))) hk
theorem tb2 (i : Nat) {w : Cond} (h : tables_1_2[i]? = some w) (hk : kw w = true := by rfl) : w ∈ TBL := tbk (List.mem_append_right _ (List.mem_append_right _ (List.mem_append_left _ (List.mem_of_getElem? h)))) hk
theorem tb3 (i : Nat) {w : Cond} (h : tables_1_3[i]? = some w) (hk : kw w = true := by rfl) : w ∈ TBL := tbk (List.mem_append_right _ (List.mem_append_right _ (List.mem_append_right _ (List.mem_append_left _ (List.mem_of_getElem? h))))) hk
theorem tb4 (i : Nat) {w : Cond} (h : tables_1_4[i]? = some w) (hk : kw w = true := by rfl) : w ∈ TBL := tbk (List.mem_append_right _ (List.mem_append_right _ (List.mem_append_right _ (List.mem_append_right _ (List.mem_append_left _ (List.mem_of_getElem? h)))))) hk
theorem tb5 (i : Nat) {w : Cond} (h : tables_1_5[i]? = some w) (hk : kw w = true := by rfl) : w ∈ TBL := tbk (List.mem_append_right _ (List.mem_append_right _ (List.mem_append_right _ (List.mem_append_right _ (List.mem_append_right _ (List.mem_of_getElem? h)))))) hk
theorem tp {w : Cond} (h : w ∈ k2_sels lw_privs) (hk : kw w = true := by rfl) : w ∈ TBL := tbk (List.mem_append_left _ h) hk
def kindOk (w : Cond) : Bool := (w.onTables && w.keepsFace) || (match w with | .arrayClass _ => true | .arrayOver (.object _) => true | .methodLinkNest .. => true | .fieldLinkNest .. => true | _ => false)
theorem kind_all : TBL.all kindOk = true := by decide +kernel
theorem warm_w {w : Cond} {args a' : Array Value} {s U : State} (hW : s.WarmedH U.vm) (hk : kindOk w = true) (h : w.before args s = true) : w.before a' U = true := by
  unfold kindOk at hk
  rw [Bool.or_eq_true, Bool.and_eq_true] at hk
  rcases hk with ⟨h1, h2⟩ | hk
  · exact va_tabs (A := args) (u := s.setVm U.vm) h1 rfl (Cond.before_shiftedFace (State.Shifted.of_warmed hW) w h2 h)
  · split at hk
    · exact (Cond.before_shiftedFace (State.Shifted.of_warmed hW) _ rfl h : (Cond.before _ args (s.setVm U.vm) = true))
    · exact va_AO.use (va_AO.moved hW.alike (va_AO.of h))
    · exact va_Nw.use rfl (va_Nw.warmM hW (va_Nw.of rfl h))
    · exact va_Nw.use rfl (va_Nw.warmF hW (va_Nw.of rfl h))
    · cases hk
theorem warm_all {args : Array Value} {s : State} (hts : ∀ w ∈ TBL, w.before args s = true) : ∀ w ∈ TBL, ∀ (a' : Array Value) (U : State), s.WarmedH U.vm → w.before a' U = true := fun w hw a' U hW => warm_w hW (List.all_eq_true.mp kind_all w hw) (hts w hw)
/-- a class of the worlds -/
def CK (ci : Nat) (C : String) (T : u_T) (N : Nat) (ty : Nat → FieldType) : Prop := classes[ci]? = some (C, T, N) ∧ (∀ w ∈ u_ws C T N, w ∈ TBL) ∧ (∀ k, k < N → parseFieldDescriptor (T k).2.2.1 = some (ty k)) ∧ (∀ a, a < N → ∀ b, b < N → a ≠ b → (T a).2.1 ≠ (T b).2.1)
theorem iw_Whole : ∀ w ∈ u_ws R_Whole F_Whole 2, w ∈ TBL := by decide +kernel
theorem ck_Whole : CK 0 R_Whole F_Whole 2 t_Whole := ⟨rfl, iw_Whole, by decide +kernel, by decide +kernel⟩
theorem iw_Frac : ∀ w ∈ u_ws R_Frac F_Frac 4, w ∈ TBL := by decide +kernel
theorem ck_Frac : CK 1 R_Frac F_Frac 4 t_Frac := ⟨rfl, iw_Frac, by decide +kernel, by decide +kernel⟩
theorem iw_Desk : ∀ w ∈ u_ws R_Desk F_Desk 6, w ∈ TBL := by decide +kernel
theorem ck_Desk : CK 2 R_Desk F_Desk 6 t_Desk := ⟨rfl, iw_Desk, by decide +kernel, by decide +kernel⟩
theorem iw_Row : ∀ w ∈ u_ws R_Row F_Row 2, w ∈ TBL := by decide +kernel
theorem ck_Row : CK 3 R_Row F_Row 2 t_Row := ⟨rfl, iw_Row, by decide +kernel, by decide +kernel⟩
theorem iw_Comp : ∀ w ∈ u_ws R_Comp F_Comp 6, w ∈ TBL := by decide +kernel
theorem ck_Comp : CK 4 R_Comp F_Comp 6 t_Comp := ⟨rfl, iw_Comp, by decide +kernel, by decide +kernel⟩
theorem iw_Mdl : ∀ w ∈ u_ws R_Mdl F_Mdl 22, w ∈ TBL := by decide +kernel
theorem ck_Mdl : CK 5 R_Mdl F_Mdl 22 t_Mdl := ⟨rfl, iw_Mdl, by decide +kernel, by decide +kernel⟩
theorem iw_AL : ∀ w ∈ u_ws R_AL F_AL 3, w ∈ TBL := by decide +kernel
theorem ck_AL : CK 6 R_AL F_AL 3 t_AL := ⟨rfl, iw_AL, by decide +kernel, by decide +kernel⟩
abbrev MD : Type := MethodName × ByteArray × Nat × Option FieldType
def okC (d : MD) (n : Nat) : Prop := Cond.code d.1 d.2.1 d.2.2.1 d.2.2.2 ∈ TBL ∧ Cond.initialized d.1.cls ∈ TBL ∧ (d.1.cls ≠ "java/lang/invoke/MethodHandle" ∧ d.1.cls ≠ "java/lang/invoke/VarHandle") ∧ (parseMethodDescriptor d.1.desc).map (fun d => d.parameters.length) = some n
def okV (d : MD) : Prop := Cond.instanceMethod d.1 ∈ TBL ∧ Cond.selects d.1.cls d.1 d.1 ∈ TBL
def okI (d : MD) : Prop := d.1.name = "<init>" ∧ Cond.instanceMethod d.1 ∈ TBL
def okS (d : MD) : Prop := Cond.static d.1 ∈ TBL
def m_Comp_init : MD := (⟨"MetreFractions", "<init>", "()V"⟩, prog_1_method_1_code, 1, none)
theorem oc_Comp_init : okC m_Comp_init 0 := ⟨tb1 29 rfl, tb1 1 rfl, by decide, by decide +kernel⟩
theorem oi_Comp_init : okI m_Comp_init := ⟨rfl, tb1 28 rfl⟩
def m_Obj_init : MD := (⟨"java/lang/Object", "<init>", "()V"⟩, object_method_1_code, 1, none)
theorem oi_Obj_init : okI m_Obj_init := ⟨rfl, tb1 31 rfl⟩
def m_AL_init : MD := (⟨"java/util/ArrayList", "<init>", "()V"⟩, prog_24_method_2_code, 1, none)
theorem oc_AL_init : okC m_AL_init 0 := ⟨tb1 37 rfl, tb1 4 rfl, by decide, by decide +kernel⟩
theorem oi_AL_init : okI m_AL_init := ⟨rfl, tb1 36 rfl⟩
def m_ABL_init : MD := (⟨"java/util/AbstractList", "<init>", "()V"⟩, prog_23_method_1_code, 1, none)
theorem oc_ABL_init : okC m_ABL_init 0 := ⟨tb1 40 rfl, tb1 3 rfl, by decide, by decide +kernel⟩
theorem oi_ABL_init : okI m_ABL_init := ⟨rfl, tb1 39 rfl⟩
def m_ABC_init : MD := (⟨"java/util/AbstractCollection", "<init>", "()V"⟩, prog_22_method_1_code, 1, none)
theorem oc_ABC_init : okC m_ABC_init 0 := ⟨tb1 43 rfl, tb1 2 rfl, by decide, by decide +kernel⟩
theorem oi_ABC_init : okI m_ABC_init := ⟨rfl, tb1 42 rfl⟩
def m_Desk_init : MD := (⟨"MetreFractions$Desk", "<init>", "()V"⟩, prog_2_method_1_code, 1, none)
theorem oc_Desk_init : okC m_Desk_init 0 := ⟨tb1 63 rfl, tb1 5 rfl, by decide, by decide +kernel⟩
theorem oi_Desk_init : okI m_Desk_init := ⟨rfl, tb1 62 rfl⟩
def m_Frac_init : MD := (⟨"MetreFractions$Fraction", "<init>", "(I)V"⟩, prog_3_method_1_code, 2, none)
theorem oc_Frac_init : okC m_Frac_init 1 := ⟨tb1 69 rfl, tb1 6 rfl, by decide, by decide +kernel⟩
theorem oi_Frac_init : okI m_Frac_init := ⟨rfl, tb1 68 rfl⟩
def m_Whole_init : MD := (⟨"MetreFractions$Whole", "<init>", "(I)V"⟩, prog_5_method_1_code, 2, none)
theorem oc_Whole_init : okC m_Whole_init 1 := ⟨tb1 75 rfl, tb1 7 rfl, by decide, by decide +kernel⟩
theorem oi_Whole_init : okI m_Whole_init := ⟨rfl, tb1 74 rfl⟩
def m_Comp_clear : MD := (⟨"MetreFractions", "clear", "()I"⟩, prog_1_method_18_code, 2, (some FieldType.int))
theorem oc_Comp_clear : okC m_Comp_clear 0 := ⟨tb1 150 rfl, tb1 1 rfl, by decide, by decide +kernel⟩
theorem ov_Comp_clear : okV m_Comp_clear := ⟨tb1 148 rfl, tb1 149 rfl⟩
def m_AL_size : MD := (⟨"java/util/ArrayList", "size", "()I"⟩, prog_24_method_8_code, 1, (some FieldType.int))
theorem oc_AL_size : okC m_AL_size 0 := ⟨tb1 154 rfl, tb1 4 rfl, by decide, by decide +kernel⟩
theorem ov_AL_size : okV m_AL_size := ⟨tb1 152 rfl, tb1 153 rfl⟩
def m_AL_addAll : MD := (⟨"java/util/ArrayList", "addAll", "(Ljava/util/Collection;)Z"⟩, prog_24_method_41_code, 6, (some FieldType.boolean))
theorem oc_AL_addAll : okC m_AL_addAll 1 := ⟨tb1 158 rfl, tb1 4 rfl, by decide, by decide +kernel⟩
theorem ov_AL_addAll : okV m_AL_addAll := ⟨tb1 156 rfl, tb1 157 rfl⟩
def m_AL_toArray : MD := (⟨"java/util/ArrayList", "toArray", "()[Ljava/lang/Object;"⟩, prog_24_method_16_code, 1, (some (FieldType.array (FieldType.object "java/lang/Object"))))
theorem oc_AL_toArray : okC m_AL_toArray 0 := ⟨tb1 168 rfl, tb1 4 rfl, by decide, by decide +kernel⟩
-- no selects for AL_toArray
def m_Arrs_copyOf2 : MD := (⟨"java/util/Arrays", "copyOf", "([Ljava/lang/Object;I)[Ljava/lang/Object;"⟩, prog_25_method_119_code, 2, (some (FieldType.array (FieldType.object "java/lang/Object"))))
theorem oc_Arrs_copyOf2 : okC m_Arrs_copyOf2 2 := ⟨tb1 171 rfl, tb1 21 rfl, by decide, by decide +kernel⟩
theorem os_Arrs_copyOf2 : okS m_Arrs_copyOf2 := tb1 170 rfl
def m_Arrs_copyOf3 : MD := (⟨"java/util/Arrays", "copyOf", "([Ljava/lang/Object;ILjava/lang/Class;)[Ljava/lang/Object;"⟩, prog_25_method_120_code, 4, (some (FieldType.array (FieldType.object "java/lang/Object"))))
theorem oc_Arrs_copyOf3 : okC m_Arrs_copyOf3 3 := ⟨tb1 189 rfl, tb1 21 rfl, by decide, by decide +kernel⟩
theorem os_Arrs_copyOf3 : okS m_Arrs_copyOf3 := tb1 188 rfl
def m_Math_min : MD := (⟨"java/lang/Math", "min", "(II)I"⟩, prog_17_method_69_code, 2, (some FieldType.int))
theorem oc_Math_min : okC m_Math_min 2 := ⟨tb1 195 rfl, tb1 17 rfl, by decide, by decide +kernel⟩
theorem os_Math_min : okS m_Math_min := tb1 194 rfl
def m_AL_grow : MD := (⟨"java/util/ArrayList", "grow", "(I)[Ljava/lang/Object;"⟩, prog_24_method_6_code, 4, (some (FieldType.array (FieldType.object "java/lang/Object"))))
theorem oc_AL_grow : okC m_AL_grow 1 := ⟨tb1 202 rfl, tb1 4 rfl, by decide, by decide +kernel⟩
theorem ov_AL_grow : okV m_AL_grow := ⟨tb1 201 rfl, tp (List.mem_of_getElem? (i := 0) rfl)⟩
def m_ASup_newLength : MD := (⟨"jdk/internal/util/ArraysSupport", "newLength", "(III)I"⟩, prog_31_method_27_code, 4, (some FieldType.int))
theorem oc_ASup_newLength : okC m_ASup_newLength 3 := ⟨tb1 205 rfl, tb1 20 rfl, by decide, by decide +kernel⟩
theorem os_ASup_newLength : okS m_ASup_newLength := tb1 204 rfl
def m_Math_max : MD := (⟨"java/lang/Math", "max", "(II)I"⟩, prog_17_method_65_code, 2, (some FieldType.int))
theorem oc_Math_max : okC m_Math_max 2 := ⟨tb1 208 rfl, tb1 17 rfl, by decide, by decide +kernel⟩
theorem os_Math_max : okS m_Math_max := tb1 207 rfl
def m_ASup_hugeLength : MD := (⟨"jdk/internal/util/ArraysSupport", "hugeLength", "(II)I"⟩, prog_31_method_28_code, 3, (some FieldType.int))
theorem oc_ASup_hugeLength : okC m_ASup_hugeLength 2 := ⟨tb1 212 rfl, tb1 20 rfl, by decide, by decide +kernel⟩
theorem os_ASup_hugeLength : okS m_ASup_hugeLength := tb1 211 rfl
def m_AL_clear : MD := (⟨"java/util/ArrayList", "clear", "()V"⟩, prog_24_method_40_code, 4, none)
theorem oc_AL_clear : okC m_AL_clear 0 := ⟨tb1 219 rfl, tb1 4 rfl, by decide, by decide +kernel⟩
theorem ov_AL_clear : okV m_AL_clear := ⟨tb1 217 rfl, tb1 218 rfl⟩
def m_Comp_row : MD := (⟨"MetreFractions", "row", "()I"⟩, prog_1_method_19_code, 1, (some FieldType.int))
theorem oc_Comp_row : okC m_Comp_row 0 := ⟨tb1 223 rfl, tb1 1 rfl, by decide, by decide +kernel⟩
theorem ov_Comp_row : okV m_Comp_row := ⟨tb1 221 rfl, tb1 222 rfl⟩
def m_Row_init : MD := (⟨"MetreFractions$Row", "<init>", "()V"⟩, prog_4_method_1_code, 1, none)
theorem oc_Row_init : okC m_Row_init 0 := ⟨tb1 228 rfl, tb1 24 rfl, by decide, by decide +kernel⟩
theorem oi_Row_init : okI m_Row_init := ⟨rfl, tb1 227 rfl⟩
def m_AL_add : MD := (⟨"java/util/ArrayList", "add", "(Ljava/lang/Object;)Z"⟩, prog_24_method_25_code, 2, (some FieldType.boolean))
theorem oc_AL_add : okC m_AL_add 1 := ⟨tb2 4 rfl, tb1 4 rfl, by decide, by decide +kernel⟩
theorem ov_AL_add : okV m_AL_add := ⟨tb2 2 rfl, tb2 3 rfl⟩
def m_AL_add3 : MD := (⟨"java/util/ArrayList", "add", "(Ljava/lang/Object;[Ljava/lang/Object;I)V"⟩, prog_24_method_24_code, 4, none)
theorem oc_AL_add3 : okC m_AL_add3 3 := ⟨tb2 8 rfl, tb1 4 rfl, by decide, by decide +kernel⟩
theorem ov_AL_add3 : okV m_AL_add3 := ⟨tb2 7 rfl, tp (List.mem_of_getElem? (i := 1) rfl)⟩
def m_AL_grow0 : MD := (⟨"java/util/ArrayList", "grow", "()[Ljava/lang/Object;"⟩, prog_24_method_7_code, 1, (some (FieldType.array (FieldType.object "java/lang/Object"))))
theorem oc_AL_grow0 : okC m_AL_grow0 0 := ⟨tb2 12 rfl, tb1 4 rfl, by decide, by decide +kernel⟩
theorem ov_AL_grow0 : okV m_AL_grow0 := ⟨tb2 11 rfl, tp (List.mem_of_getElem? (i := 2) rfl)⟩
def m_Comp_noWeights : MD := (⟨"MetreFractions", "noWeights", "()I"⟩, prog_1_method_25_code, 2, (some FieldType.int))
theorem oc_Comp_noWeights : okC m_Comp_noWeights 0 := ⟨tb2 16 rfl, tb1 1 rfl, by decide, by decide +kernel⟩
theorem ov_Comp_noWeights : okV m_Comp_noWeights := ⟨tb2 14 rfl, tb2 15 rfl⟩
def m_Law_value : MD := (⟨"MetreFractionsLaw", "value", "(LMetreFractions;JJI[J)I"⟩, method_3_code, 8, (some FieldType.int))
theorem os_Law_value : okS m_Law_value := tb2 18 rfl
def m_ArE_initS : MD := (⟨"java/lang/ArithmeticException", "<init>", "(Ljava/lang/String;)V"⟩, prog_9_method_2_code, 2, none)
theorem oc_ArE_initS : okC m_ArE_initS 1 := ⟨tb2 23 rfl, tb1 12 rfl, by decide, by decide +kernel⟩
theorem oi_ArE_initS : okI m_ArE_initS := ⟨rfl, tb2 22 rfl⟩
def m_RtE_initS : MD := (⟨"java/lang/RuntimeException", "<init>", "(Ljava/lang/String;)V"⟩, prog_18_method_2_code, 2, none)
theorem oc_RtE_initS : okC m_RtE_initS 1 := ⟨tb2 26 rfl, tb1 11 rfl, by decide, by decide +kernel⟩
theorem oi_RtE_initS : okI m_RtE_initS := ⟨rfl, tb2 25 rfl⟩
def m_Exc_initS : MD := (⟨"java/lang/Exception", "<init>", "(Ljava/lang/String;)V"⟩, prog_12_method_2_code, 2, none)
theorem oc_Exc_initS : okC m_Exc_initS 1 := ⟨tb2 29 rfl, tb1 10 rfl, by decide, by decide +kernel⟩
theorem oi_Exc_initS : okI m_Exc_initS := ⟨rfl, tb2 28 rfl⟩
def m_Thr_initS : MD := (⟨"java/lang/Throwable", "<init>", "(Ljava/lang/String;)V"⟩, prog_21_method_2_code, 2, none)
theorem oc_Thr_initS : okC m_Thr_initS 1 := ⟨tb2 32 rfl, tb1 9 rfl, by decide, by decide +kernel⟩
theorem oi_Thr_initS : okI m_Thr_initS := ⟨rfl, tb2 31 rfl⟩
def m_Thr_init : MD := (⟨"java/lang/Throwable", "<init>", "()V"⟩, prog_21_method_1_code, 1, none)
theorem oc_Thr_init : okC m_Thr_init 0 := ⟨tb2 85 rfl, tb1 9 rfl, by decide, by decide +kernel⟩
theorem oi_Thr_init : okI m_Thr_init := ⟨rfl, tb2 84 rfl⟩
def m_Comp_value : MD := (⟨"MetreFractions", "value", "(JJI)I"⟩, prog_1_method_9_code, 6, (some FieldType.int))
theorem oc_Comp_value : okC m_Comp_value 3 := ⟨tb2 96 rfl, tb1 1 rfl, by decide, by decide +kernel⟩
theorem ov_Comp_value : okV m_Comp_value := ⟨tb2 94 rfl, tb2 95 rfl⟩
def m_ArE_init : MD := (⟨"java/lang/ArithmeticException", "<init>", "()V"⟩, prog_9_method_1_code, 1, none)
theorem oc_ArE_init : okC m_ArE_init 0 := ⟨tb2 100 rfl, tb1 12 rfl, by decide, by decide +kernel⟩
theorem oi_ArE_init : okI m_ArE_init := ⟨rfl, tb2 99 rfl⟩
def m_RtE_init : MD := (⟨"java/lang/RuntimeException", "<init>", "()V"⟩, prog_18_method_1_code, 1, none)
theorem oc_RtE_init : okC m_RtE_init 0 := ⟨tb2 103 rfl, tb1 11 rfl, by decide, by decide +kernel⟩
theorem oi_RtE_init : okI m_RtE_init := ⟨rfl, tb2 102 rfl⟩
def m_Exc_init : MD := (⟨"java/lang/Exception", "<init>", "()V"⟩, prog_12_method_1_code, 1, none)
theorem oc_Exc_init : okC m_Exc_init 0 := ⟨tb2 106 rfl, tb1 10 rfl, by decide, by decide +kernel⟩
theorem oi_Exc_init : okI m_Exc_init := ⟨rfl, tb2 105 rfl⟩
def m_Comp_isUnit : MD := (⟨"MetreFractions", "isUnit", "(I)Z"⟩, prog_1_method_5_code, 1, (some FieldType.boolean))
theorem oc_Comp_isUnit : okC m_Comp_isUnit 1 := ⟨tb2 110 rfl, tb1 1 rfl, by decide, by decide +kernel⟩
theorem os_Comp_isUnit : okS m_Comp_isUnit := tb2 109 rfl
def m_Comp_need : MD := (⟨"MetreFractions", "need", "(Z)V"⟩, prog_1_method_2_code, 1, none)
theorem oc_Comp_need : okC m_Comp_need 1 := ⟨tb2 113 rfl, tb1 1 rfl, by decide, by decide +kernel⟩
theorem os_Comp_need : okS m_Comp_need := tb2 112 rfl
def m_IaE_init : MD := (⟨"java/lang/IllegalArgumentException", "<init>", "()V"⟩, prog_13_method_1_code, 1, none)
theorem oc_IaE_init : okC m_IaE_init 0 := ⟨tb2 125 rfl, tb1 14 rfl, by decide, by decide +kernel⟩
theorem oi_IaE_init : okI m_IaE_init := ⟨rfl, tb2 124 rfl⟩
def m_Desk_set : MD := (⟨"MetreFractions$Desk", "set", "(JJI)V"⟩, prog_2_method_2_code, 6, none)
theorem oc_Desk_set : okC m_Desk_set 3 := ⟨tb2 132 rfl, tb1 5 rfl, by decide, by decide +kernel⟩
theorem ov_Desk_set : okV m_Desk_set := ⟨tb2 130 rfl, tb2 131 rfl⟩
def m_Whole_set : MD := (⟨"MetreFractions$Whole", "set", "(J)V"⟩, prog_5_method_2_code, 5, none)
theorem oc_Whole_set : okC m_Whole_set 1 := ⟨tb2 136 rfl, tb1 7 rfl, by decide, by decide +kernel⟩
theorem ov_Whole_set : okV m_Whole_set := ⟨tb2 134 rfl, tb2 135 rfl⟩
def m_Desk_reduce : MD := (⟨"MetreFractions$Desk", "reduce", "()V"⟩, prog_2_method_3_code, 4, none)
theorem oc_Desk_reduce : okC m_Desk_reduce 0 := ⟨tb2 141 rfl, tb1 5 rfl, by decide, by decide +kernel⟩
theorem ov_Desk_reduce : okV m_Desk_reduce := ⟨tb2 140 rfl, tp (List.mem_of_getElem? (i := 4) rfl)⟩
def m_Whole_isNothing : MD := (⟨"MetreFractions$Whole", "isNothing", "()Z"⟩, prog_5_method_4_code, 1, (some FieldType.boolean))
theorem oc_Whole_isNothing : okC m_Whole_isNothing 0 := ⟨tb2 145 rfl, tb1 7 rfl, by decide, by decide +kernel⟩
theorem ov_Whole_isNothing : okV m_Whole_isNothing := ⟨tb2 143 rfl, tb2 144 rfl⟩
def m_Whole_copy : MD := (⟨"MetreFractions$Whole", "copy", "(LMetreFractions$Whole;)V"⟩, prog_5_method_3_code, 2, none)
theorem oc_Whole_copy : okC m_Whole_copy 1 := ⟨tb2 149 rfl, tb1 7 rfl, by decide, by decide +kernel⟩
theorem ov_Whole_copy : okV m_Whole_copy := ⟨tb2 147 rfl, tb2 148 rfl⟩
def m_Whole_divide : MD := (⟨"MetreFractions$Whole", "divide", "(LMetreFractions$Whole;LMetreFractions$Whole;LMetreFractions$Whole;)V"⟩, prog_5_method_12_code, 14, none)
theorem oc_Whole_divide : okC m_Whole_divide 3 := ⟨tb2 154 rfl, tb1 7 rfl, by decide, by decide +kernel⟩
theorem ov_Whole_divide : okV m_Whole_divide := ⟨tb2 152 rfl, tb2 153 rfl⟩
def m_Whole_against : MD := (⟨"MetreFractions$Whole", "against", "(LMetreFractions$Whole;)I"⟩, prog_5_method_6_code, 3, (some FieldType.int))
theorem oc_Whole_against : okC m_Whole_against 1 := ⟨tb2 158 rfl, tb1 7 rfl, by decide, by decide +kernel⟩
theorem ov_Whole_against : okV m_Whole_against := ⟨tb2 156 rfl, tb2 157 rfl⟩
def m_Int_compare : MD := (⟨"java/lang/Integer", "compare", "(II)I"⟩, prog_15_method_40_code, 2, (some FieldType.int))
theorem oc_Int_compare : okC m_Int_compare 2 := ⟨tb2 161 rfl, tb1 16 rfl, by decide, by decide +kernel⟩
theorem os_Int_compare : okS m_Int_compare := tb2 160 rfl
def m_Whole_times : MD := (⟨"MetreFractions$Whole", "times", "(I)V"⟩, prog_5_method_9_code, 5, none)
theorem oc_Whole_times : okC m_Whole_times 1 := ⟨tb2 167 rfl, tb1 7 rfl, by decide, by decide +kernel⟩
theorem ov_Whole_times : okV m_Whole_times := ⟨tb2 165 rfl, tb2 166 rfl⟩
def m_Whole_trim : MD := (⟨"MetreFractions$Whole", "trim", "()V"⟩, prog_5_method_5_code, 1, none)
theorem oc_Whole_trim : okC m_Whole_trim 0 := ⟨tb2 171 rfl, tb1 7 rfl, by decide, by decide +kernel⟩
theorem ov_Whole_trim : okV m_Whole_trim := ⟨tb2 170 rfl, tp (List.mem_of_getElem? (i := 5) rfl)⟩
def m_Math_minJ : MD := (⟨"java/lang/Math", "min", "(JJ)J"⟩, prog_17_method_70_code, 4, (some FieldType.long))
theorem oc_Math_minJ : okC m_Math_minJ 2 := ⟨tb2 175 rfl, tb1 17 rfl, by decide, by decide +kernel⟩
theorem os_Math_minJ : okS m_Math_minJ := tb2 174 rfl
def m_Whole_take3 : MD := (⟨"MetreFractions$Whole", "take", "(LMetreFractions$Whole;JI)J"⟩, prog_5_method_13_code, 10, (some FieldType.long))
theorem oc_Whole_take3 : okC m_Whole_take3 3 := ⟨tb2 179 rfl, tb1 7 rfl, by decide, by decide +kernel⟩
theorem ov_Whole_take3 : okV m_Whole_take3 := ⟨tb2 178 rfl, tp (List.mem_of_getElem? (i := 6) rfl)⟩
def m_Math_floorMod : MD := (⟨"java/lang/Math", "floorMod", "(JJ)J"⟩, prog_17_method_52_code, 6, (some FieldType.long))
theorem oc_Math_floorMod : okC m_Math_floorMod 2 := ⟨tb2 182 rfl, tb1 17 rfl, by decide, by decide +kernel⟩
theorem os_Math_floorMod : okS m_Math_floorMod := tb2 181 rfl
def m_Whole_giveBack : MD := (⟨"MetreFractions$Whole", "giveBack", "(LMetreFractions$Whole;I)J"⟩, prog_5_method_14_code, 6, (some FieldType.long))
theorem oc_Whole_giveBack : okC m_Whole_giveBack 2 := ⟨tb2 186 rfl, tb1 7 rfl, by decide, by decide +kernel⟩
theorem ov_Whole_giveBack : okV m_Whole_giveBack := ⟨tb2 185 rfl, tp (List.mem_of_getElem? (i := 7) rfl)⟩
def m_Whole_cut : MD := (⟨"MetreFractions$Whole", "cut", "(I)I"⟩, prog_5_method_11_code, 5, (some FieldType.int))
theorem oc_Whole_cut : okC m_Whole_cut 1 := ⟨tb2 190 rfl, tb1 7 rfl, by decide, by decide +kernel⟩
theorem ov_Whole_cut : okV m_Whole_cut := ⟨tb2 188 rfl, tb2 189 rfl⟩
def m_Comp_keep : MD := (⟨"MetreFractions", "keep", "()I"⟩, prog_1_method_7_code, 2, (some FieldType.int))
theorem oc_Comp_keep : okC m_Comp_keep 0 := ⟨tb2 194 rfl, tb1 1 rfl, by decide, by decide +kernel⟩
theorem ov_Comp_keep : okV m_Comp_keep := ⟨tb2 193 rfl, tp (List.mem_of_getElem? (i := 8) rfl)⟩
def m_Frac_isLong : MD := (⟨"MetreFractions$Fraction", "isLong", "()Z"⟩, prog_3_method_4_code, 1, (some FieldType.boolean))
theorem oc_Frac_isLong : okC m_Frac_isLong 0 := ⟨tb2 198 rfl, tb1 6 rfl, by decide, by decide +kernel⟩
theorem ov_Frac_isLong : okV m_Frac_isLong := ⟨tb2 196 rfl, tb2 197 rfl⟩
def m_Comp_fresh : MD := (⟨"MetreFractions", "fresh", "()LMetreFractions$Fraction;"⟩, prog_1_method_6_code, 1, (some (FieldType.object "MetreFractions$Fraction")))
theorem oc_Comp_fresh : okC m_Comp_fresh 0 := ⟨tb2 202 rfl, tb1 1 rfl, by decide, by decide +kernel⟩
theorem ov_Comp_fresh : okV m_Comp_fresh := ⟨tb2 201 rfl, tp (List.mem_of_getElem? (i := 9) rfl)⟩
def m_AL_isEmpty : MD := (⟨"java/util/ArrayList", "isEmpty", "()Z"⟩, prog_24_method_9_code, 1, (some FieldType.boolean))
theorem oc_AL_isEmpty : okC m_AL_isEmpty 0 := ⟨tb2 206 rfl, tb1 4 rfl, by decide, by decide +kernel⟩
theorem ov_AL_isEmpty : okV m_AL_isEmpty := ⟨tb2 204 rfl, tb2 205 rfl⟩
def m_AL_remove : MD := (⟨"java/util/ArrayList", "remove", "(I)Ljava/lang/Object;"⟩, prog_24_method_29_code, 4, (some (FieldType.object "java/lang/Object")))
theorem oc_AL_remove : okC m_AL_remove 1 := ⟨tb2 212 rfl, tb1 4 rfl, by decide, by decide +kernel⟩
theorem ov_AL_remove : okV m_AL_remove := ⟨tb2 210 rfl, tb2 211 rfl⟩
def m_Objs_checkIndex : MD := (⟨"java/util/Objects", "checkIndex", "(II)I"⟩, prog_28_method_17_code, 2, (some FieldType.int))
theorem oc_Objs_checkIndex : okC m_Objs_checkIndex 2 := ⟨tb2 215 rfl, tb1 18 rfl, by decide, by decide +kernel⟩
theorem os_Objs_checkIndex : okS m_Objs_checkIndex := tb2 214 rfl
def m_Prec_checkIndex : MD := (⟨"jdk/internal/util/Preconditions", "checkIndex", "(IILjava/util/function/BiFunction;)I"⟩, prog_32_method_11_code, 3, (some FieldType.int))
theorem oc_Prec_checkIndex : okC m_Prec_checkIndex 3 := ⟨tb2 218 rfl, tb1 19 rfl, by decide, by decide +kernel⟩
theorem os_Prec_checkIndex : okS m_Prec_checkIndex := tb2 217 rfl
def m_AL_fastRemove : MD := (⟨"java/util/ArrayList", "fastRemove", "([Ljava/lang/Object;I)V"⟩, prog_24_method_39_code, 4, none)
theorem oc_AL_fastRemove : okC m_AL_fastRemove 2 := ⟨tb2 222 rfl, tb1 4 rfl, by decide, by decide +kernel⟩
theorem ov_AL_fastRemove : okV m_AL_fastRemove := ⟨tb2 221 rfl, tp (List.mem_of_getElem? (i := 10) rfl)⟩
def m_Frac_copy : MD := (⟨"MetreFractions$Fraction", "copy", "(LMetreFractions$Fraction;)V"⟩, prog_3_method_3_code, 2, none)
theorem oc_Frac_copy : okC m_Frac_copy 1 := ⟨tb2 226 rfl, tb1 6 rfl, by decide, by decide +kernel⟩
theorem ov_Frac_copy : okV m_Frac_copy := ⟨tb2 224 rfl, tb2 225 rfl⟩
def m_Law_add : MD := (⟨"MetreFractionsLaw", "add", "(LMetreFractions;IIZ[J)I"⟩, method_4_code, 6, (some FieldType.int))
theorem os_Law_add : okS m_Law_add := tb2 229 rfl
def m_AiE_initS : MD := (⟨"java/lang/ArrayIndexOutOfBoundsException", "<init>", "(Ljava/lang/String;)V"⟩, prog_10_method_2_code, 2, none)
theorem oc_AiE_initS : okC m_AiE_initS 1 := ⟨tb2 234 rfl, tb1 23 rfl, by decide, by decide +kernel⟩
theorem oi_AiE_initS : okI m_AiE_initS := ⟨rfl, tb2 233 rfl⟩
def m_IoE_initS : MD := (⟨"java/lang/IndexOutOfBoundsException", "<init>", "(Ljava/lang/String;)V"⟩, prog_14_method_2_code, 2, none)
theorem oc_IoE_initS : okC m_IoE_initS 1 := ⟨tb2 237 rfl, tb1 22 rfl, by decide, by decide +kernel⟩
theorem oi_IoE_initS : okI m_IoE_initS := ⟨rfl, tb2 236 rfl⟩
def m_Comp_add : MD := (⟨"MetreFractions", "add", "(IIZ)I"⟩, prog_1_method_10_code, 7, (some FieldType.int))
theorem oc_Comp_add : okC m_Comp_add 3 := ⟨tb3 13 rfl, tb1 1 rfl, by decide, by decide +kernel⟩
theorem ov_Comp_add : okV m_Comp_add := ⟨tb3 11 rfl, tb3 12 rfl⟩
def m_Comp_of : MD := (⟨"MetreFractions", "of", "(I)LMetreFractions$Fraction;"⟩, prog_1_method_4_code, 2, (some (FieldType.object "MetreFractions$Fraction")))
theorem oc_Comp_of : okC m_Comp_of 1 := ⟨tb3 17 rfl, tb1 1 rfl, by decide, by decide +kernel⟩
theorem ov_Comp_of : okV m_Comp_of := ⟨tb3 16 rfl, tp (List.mem_of_getElem? (i := 11) rfl)⟩
def m_Comp_there : MD := (⟨"MetreFractions", "there", "(II)V"⟩, prog_1_method_3_code, 2, none)
theorem oc_Comp_there : okC m_Comp_there 2 := ⟨tb3 20 rfl, tb1 1 rfl, by decide, by decide +kernel⟩
theorem os_Comp_there : okS m_Comp_there := tb3 19 rfl
def m_IoE_init : MD := (⟨"java/lang/IndexOutOfBoundsException", "<init>", "()V"⟩, prog_14_method_1_code, 1, none)
theorem oc_IoE_init : okC m_IoE_init 0 := ⟨tb3 32 rfl, tb1 22 rfl, by decide, by decide +kernel⟩
theorem oi_IoE_init : okI m_IoE_init := ⟨rfl, tb3 31 rfl⟩
def m_AL_get : MD := (⟨"java/util/ArrayList", "get", "(I)Ljava/lang/Object;"⟩, prog_24_method_20_code, 2, (some (FieldType.object "java/lang/Object")))
theorem oc_AL_get : okC m_AL_get 1 := ⟨tb3 39 rfl, tb1 4 rfl, by decide, by decide +kernel⟩
theorem ov_AL_get : okV m_AL_get := ⟨tb3 37 rfl, tb3 38 rfl⟩
def m_AL_elementData : MD := (⟨"java/util/ArrayList", "elementData", "(I)Ljava/lang/Object;"⟩, prog_24_method_18_code, 2, (some (FieldType.object "java/lang/Object")))
theorem oc_AL_elementData : okC m_AL_elementData 1 := ⟨tb3 43 rfl, tb1 4 rfl, by decide, by decide +kernel⟩
theorem ov_AL_elementData : okV m_AL_elementData := ⟨tb3 41 rfl, tb3 42 rfl⟩
def m_Comp_refusal : MD := (⟨"MetreFractions", "refusal", "(Z)I"⟩, prog_1_method_8_code, 2, (some FieldType.int))
theorem oc_Comp_refusal : okC m_Comp_refusal 1 := ⟨tb3 47 rfl, tb1 1 rfl, by decide, by decide +kernel⟩
theorem ov_Comp_refusal : okV m_Comp_refusal := ⟨tb3 46 rfl, tp (List.mem_of_getElem? (i := 12) rfl)⟩
def m_Desk_add : MD := (⟨"MetreFractions$Desk", "add", "(LMetreFractions$Fraction;Z)V"⟩, prog_2_method_4_code, 4, none)
theorem oc_Desk_add : okC m_Desk_add 2 := ⟨tb3 51 rfl, tb1 5 rfl, by decide, by decide +kernel⟩
theorem ov_Desk_add : okV m_Desk_add := ⟨tb3 49 rfl, tb3 50 rfl⟩
def m_Whole_multiply : MD := (⟨"MetreFractions$Whole", "multiply", "(LMetreFractions$Whole;LMetreFractions$Whole;)V"⟩, prog_5_method_10_code, 8, none)
theorem oc_Whole_multiply : okC m_Whole_multiply 2 := ⟨tb3 55 rfl, tb1 7 rfl, by decide, by decide +kernel⟩
theorem ov_Whole_multiply : okV m_Whole_multiply := ⟨tb3 53 rfl, tb3 54 rfl⟩
def m_Whole_add : MD := (⟨"MetreFractions$Whole", "add", "(LMetreFractions$Whole;)V"⟩, prog_5_method_7_code, 6, none)
theorem oc_Whole_add : okC m_Whole_add 1 := ⟨tb3 59 rfl, tb1 7 rfl, by decide, by decide +kernel⟩
theorem ov_Whole_add : okV m_Whole_add := ⟨tb3 57 rfl, tb3 58 rfl⟩
def m_Whole_take : MD := (⟨"MetreFractions$Whole", "take", "(LMetreFractions$Whole;)V"⟩, prog_5_method_8_code, 5, none)
theorem oc_Whole_take : okC m_Whole_take 1 := ⟨tb3 65 rfl, tb1 7 rfl, by decide, by decide +kernel⟩
theorem ov_Whole_take : okV m_Whole_take := ⟨tb3 63 rfl, tb3 64 rfl⟩
def m_Law_times : MD := (⟨"MetreFractionsLaw", "times", "(LMetreFractions;II[J)I"⟩, method_5_code, 5, (some FieldType.int))
theorem os_Law_times : okS m_Law_times := tb3 67 rfl
def m_Comp_times : MD := (⟨"MetreFractions", "times", "(II)I"⟩, prog_1_method_11_code, 6, (some FieldType.int))
theorem oc_Comp_times : okC m_Comp_times 2 := ⟨tb3 72 rfl, tb1 1 rfl, by decide, by decide +kernel⟩
theorem ov_Comp_times : okV m_Comp_times := ⟨tb3 70 rfl, tb3 71 rfl⟩
def m_Desk_times : MD := (⟨"MetreFractions$Desk", "times", "(LMetreFractions$Fraction;)V"⟩, prog_2_method_5_code, 2, none)
theorem oc_Desk_times : okC m_Desk_times 1 := ⟨tb3 76 rfl, tb1 5 rfl, by decide, by decide +kernel⟩
theorem ov_Desk_times : okV m_Desk_times := ⟨tb3 74 rfl, tb3 75 rfl⟩
def m_Law_over : MD := (⟨"MetreFractionsLaw", "over", "(LMetreFractions;II[J)I"⟩, method_6_code, 5, (some FieldType.int))
theorem os_Law_over : okS m_Law_over := tb3 78 rfl
def m_Comp_over : MD := (⟨"MetreFractions", "over", "(II)I"⟩, prog_1_method_12_code, 6, (some FieldType.int))
theorem oc_Comp_over : okC m_Comp_over 2 := ⟨tb3 83 rfl, tb1 1 rfl, by decide, by decide +kernel⟩
theorem ov_Comp_over : okV m_Comp_over := ⟨tb3 81 rfl, tb3 82 rfl⟩
def m_Frac_sign : MD := (⟨"MetreFractions$Fraction", "sign", "()I"⟩, prog_3_method_2_code, 1, (some FieldType.int))
theorem oc_Frac_sign : okC m_Frac_sign 0 := ⟨tb3 87 rfl, tb1 6 rfl, by decide, by decide +kernel⟩
theorem ov_Frac_sign : okV m_Frac_sign := ⟨tb3 85 rfl, tb3 86 rfl⟩
def m_Desk_over : MD := (⟨"MetreFractions$Desk", "over", "(LMetreFractions$Fraction;)V"⟩, prog_2_method_6_code, 2, none)
theorem oc_Desk_over : okC m_Desk_over 1 := ⟨tb3 92 rfl, tb1 5 rfl, by decide, by decide +kernel⟩
theorem ov_Desk_over : okV m_Desk_over := ⟨tb3 90 rfl, tb3 91 rfl⟩
def m_Law_order : MD := (⟨"MetreFractionsLaw", "order", "(LMetreFractions;II[J)I"⟩, method_7_code, 5, (some FieldType.int))
theorem os_Law_order : okS m_Law_order := tb3 94 rfl
def m_Comp_order : MD := (⟨"MetreFractions", "order", "(II)I"⟩, prog_1_method_13_code, 5, (some FieldType.int))
theorem oc_Comp_order : okC m_Comp_order 2 := ⟨tb3 99 rfl, tb1 1 rfl, by decide, by decide +kernel⟩
theorem ov_Comp_order : okV m_Comp_order := ⟨tb3 97 rfl, tb3 98 rfl⟩
def m_Desk_against : MD := (⟨"MetreFractions$Desk", "against", "(LMetreFractions$Fraction;LMetreFractions$Fraction;)I"⟩, prog_2_method_8_code, 3, (some FieldType.int))
theorem oc_Desk_against : okC m_Desk_against 2 := ⟨tb3 103 rfl, tb1 5 rfl, by decide, by decide +kernel⟩
theorem ov_Desk_against : okV m_Desk_against := ⟨tb3 101 rfl, tb3 102 rfl⟩
def m_Law_round : MD := (⟨"MetreFractionsLaw", "round", "(LMetreFractions;III[J)I"⟩, method_8_code, 6, (some FieldType.int))
theorem os_Law_round : okS m_Law_round := tb3 107 rfl
def m_Comp_round : MD := (⟨"MetreFractions", "round", "(III)I"⟩, prog_1_method_14_code, 6, (some FieldType.int))
theorem oc_Comp_round : okC m_Comp_round 3 := ⟨tb3 112 rfl, tb1 1 rfl, by decide, by decide +kernel⟩
theorem ov_Comp_round : okV m_Comp_round := ⟨tb3 110 rfl, tb3 111 rfl⟩
def m_Desk_round : MD := (⟨"MetreFractions$Desk", "round", "(II)V"⟩, prog_2_method_9_code, 7, none)
theorem oc_Desk_round : okC m_Desk_round 2 := ⟨tb3 117 rfl, tb1 5 rfl, by decide, by decide +kernel⟩
theorem ov_Desk_round : okV m_Desk_round := ⟨tb3 115 rfl, tb3 116 rfl⟩
def m_Whole_isOdd : MD := (⟨"MetreFractions$Whole", "isOdd", "()Z"⟩, prog_5_method_15_code, 1, (some FieldType.boolean))
theorem oc_Whole_isOdd : okC m_Whole_isOdd 0 := ⟨tb3 122 rfl, tb1 7 rfl, by decide, by decide +kernel⟩
theorem ov_Whole_isOdd : okV m_Whole_isOdd := ⟨tb3 120 rfl, tb3 121 rfl⟩
def m_Law_prism : MD := (⟨"MetreFractionsLaw", "prism", "(LMetreFractions;IIII[J)I"⟩, method_9_code, 7, (some FieldType.int))
theorem os_Law_prism : okS m_Law_prism := tb3 124 rfl
def m_Comp_prism : MD := (⟨"MetreFractions", "prism", "(IIII)I"⟩, prog_1_method_15_code, 10, (some FieldType.int))
theorem oc_Comp_prism : okC m_Comp_prism 4 := ⟨tb3 129 rfl, tb1 1 rfl, by decide, by decide +kernel⟩
theorem ov_Comp_prism : okV m_Comp_prism := ⟨tb3 127 rfl, tb3 128 rfl⟩
def m_Desk_timesI : MD := (⟨"MetreFractions$Desk", "times", "(I)V"⟩, prog_2_method_7_code, 2, none)
theorem oc_Desk_timesI : okC m_Desk_timesI 1 := ⟨tb3 133 rfl, tb1 5 rfl, by decide, by decide +kernel⟩
theorem ov_Desk_timesI : okV m_Desk_timesI := ⟨tb3 131 rfl, tb3 132 rfl⟩
def m_Law_told : MD := (⟨"MetreFractionsLaw", "told", "(LMetreFractions;II[J)I"⟩, method_10_code, 5, (some FieldType.int))
theorem os_Law_told : okS m_Law_told := tb3 137 rfl
def m_Comp_told : MD := (⟨"MetreFractions", "told", "(II)I"⟩, prog_1_method_16_code, 4, (some FieldType.int))
theorem oc_Comp_told : okC m_Comp_told 2 := ⟨tb3 142 rfl, tb1 1 rfl, by decide, by decide +kernel⟩
theorem ov_Comp_told : okV m_Comp_told := ⟨tb3 140 rfl, tb3 141 rfl⟩
def m_Whole_digits : MD := (⟨"MetreFractions$Whole", "digits", "()I"⟩, prog_5_method_16_code, 3, (some FieldType.int))
theorem oc_Whole_digits : okC m_Whole_digits 0 := ⟨tb3 146 rfl, tb1 7 rfl, by decide, by decide +kernel⟩
theorem ov_Whole_digits : okV m_Whole_digits := ⟨tb3 144 rfl, tb3 145 rfl⟩
def m_Law_digit : MD := (⟨"MetreFractionsLaw", "digit", "(LMetreFractions;III[J)I"⟩, method_11_code, 6, (some FieldType.int))
theorem os_Law_digit : okS m_Law_digit := tb3 148 rfl
def m_Comp_digit : MD := (⟨"MetreFractions", "digit", "(III)I"⟩, prog_1_method_17_code, 7, (some FieldType.int))
theorem oc_Comp_digit : okC m_Comp_digit 3 := ⟨tb3 153 rfl, tb1 1 rfl, by decide, by decide +kernel⟩
theorem ov_Comp_digit : okV m_Comp_digit := ⟨tb3 151 rfl, tb3 152 rfl⟩
def m_Whole_digit : MD := (⟨"MetreFractions$Whole", "digit", "(I)I"⟩, prog_5_method_17_code, 4, (some FieldType.int))
theorem oc_Whole_digit : okC m_Whole_digit 1 := ⟨tb3 158 rfl, tb1 7 rfl, by decide, by decide +kernel⟩
theorem ov_Whole_digit : okV m_Whole_digit := ⟨tb3 156 rfl, tb3 157 rfl⟩
def m_Law_corner : MD := (⟨"MetreFractionsLaw", "corner", "(LMetreFractions;III[J)I"⟩, method_12_code, 6, (some FieldType.int))
theorem os_Law_corner : okS m_Law_corner := tb3 160 rfl
def m_Comp_corner : MD := (⟨"MetreFractions", "corner", "(III)I"⟩, prog_1_method_21_code, 8, (some FieldType.int))
theorem oc_Comp_corner : okC m_Comp_corner 3 := ⟨tb3 165 rfl, tb1 1 rfl, by decide, by decide +kernel⟩
theorem ov_Comp_corner : okV m_Comp_corner := ⟨tb3 163 rfl, tb3 164 rfl⟩
def m_Comp_rowOf : MD := (⟨"MetreFractions", "rowOf", "(I)LMetreFractions$Row;"⟩, prog_1_method_20_code, 2, (some (FieldType.object "MetreFractions$Row")))
theorem oc_Comp_rowOf : okC m_Comp_rowOf 1 := ⟨tb3 169 rfl, tb1 1 rfl, by decide, by decide +kernel⟩
theorem ov_Comp_rowOf : okV m_Comp_rowOf := ⟨tb3 168 rfl, tp (List.mem_of_getElem? (i := 13) rfl)⟩
def m_Row_size : MD := (⟨"MetreFractions$Row", "size", "()I"⟩, prog_4_method_2_code, 1, (some FieldType.int))
theorem oc_Row_size : okC m_Row_size 0 := ⟨tb3 173 rfl, tb1 24 rfl, by decide, by decide +kernel⟩
theorem ov_Row_size : okV m_Row_size := ⟨tb3 171 rfl, tb3 172 rfl⟩
def m_Row_lastPlace : MD := (⟨"MetreFractions$Row", "lastPlace", "()LMetreFractions$Fraction;"⟩, prog_4_method_3_code, 1, (some (FieldType.object "MetreFractions$Fraction")))
theorem oc_Row_lastPlace : okC m_Row_lastPlace 0 := ⟨tb3 178 rfl, tb1 24 rfl, by decide, by decide +kernel⟩
theorem ov_Row_lastPlace : okV m_Row_lastPlace := ⟨tb3 176 rfl, tb3 177 rfl⟩
def m_Law_at : MD := (⟨"MetreFractionsLaw", "at", "(LMetreFractions;II[J)I"⟩, method_13_code, 5, (some FieldType.int))
theorem os_Law_at : okS m_Law_at := tb3 183 rfl
def m_Comp_at : MD := (⟨"MetreFractions", "at", "(II)I"⟩, prog_1_method_22_code, 7, (some FieldType.int))
theorem oc_Comp_at : okC m_Comp_at 2 := ⟨tb3 188 rfl, tb1 1 rfl, by decide, by decide +kernel⟩
theorem ov_Comp_at : okV m_Comp_at := ⟨tb3 186 rfl, tb3 187 rfl⟩
def m_Desk_line : MD := (⟨"MetreFractions$Desk", "line", "(LMetreFractions$Fraction;LMetreFractions$Fraction;LMetreFractions$Fraction;LMetreFractions$Fraction;LMetreFractions$Fraction;)V"⟩, prog_2_method_11_code, 6, none)
theorem oc_Desk_line : okC m_Desk_line 5 := ⟨tb3 192 rfl, tb1 5 rfl, by decide, by decide +kernel⟩
theorem ov_Desk_line : okV m_Desk_line := ⟨tb3 190 rfl, tb3 191 rfl⟩
def m_Law_area : MD := (⟨"MetreFractionsLaw", "area", "(LMetreFractions;I[J)I"⟩, method_14_code, 4, (some FieldType.int))
theorem os_Law_area : okS m_Law_area := tb3 198 rfl
def m_Comp_area : MD := (⟨"MetreFractions", "area", "(I)I"⟩, prog_1_method_23_code, 7, (some FieldType.int))
theorem oc_Comp_area : okC m_Comp_area 1 := ⟨tb3 203 rfl, tb1 1 rfl, by decide, by decide +kernel⟩
theorem ov_Comp_area : okV m_Comp_area := ⟨tb3 201 rfl, tb3 202 rfl⟩
def m_Desk_strip : MD := (⟨"MetreFractions$Desk", "strip", "(LMetreFractions$Fraction;LMetreFractions$Fraction;LMetreFractions$Fraction;LMetreFractions$Fraction;)V"⟩, prog_2_method_10_code, 5, none)
theorem oc_Desk_strip : okC m_Desk_strip 4 := ⟨tb3 207 rfl, tb1 5 rfl, by decide, by decide +kernel⟩
theorem ov_Desk_strip : okV m_Desk_strip := ⟨tb3 205 rfl, tb3 206 rfl⟩
def m_Law_weight : MD := (⟨"MetreFractionsLaw", "weight", "(LMetreFractions;I[J)I"⟩, method_15_code, 4, (some FieldType.int))
theorem os_Law_weight : okS m_Law_weight := tb3 209 rfl
def m_Comp_weight : MD := (⟨"MetreFractions", "weight", "(I)I"⟩, prog_1_method_24_code, 2, (some FieldType.int))
theorem oc_Comp_weight : okC m_Comp_weight 1 := ⟨tb3 214 rfl, tb1 1 rfl, by decide, by decide +kernel⟩
theorem ov_Comp_weight : okV m_Comp_weight := ⟨tb3 212 rfl, tb3 213 rfl⟩
def m_Law_share : MD := (⟨"MetreFractionsLaw", "share", "(LMetreFractions;JI[J)I"⟩, method_16_code, 6, (some FieldType.int))
theorem os_Law_share : okS m_Law_share := tb3 216 rfl
def m_Comp_share : MD := (⟨"MetreFractions", "share", "(JI)J"⟩, prog_1_method_26_code, 16, (some FieldType.long))
theorem oc_Comp_share : okC m_Comp_share 2 := ⟨tb3 221 rfl, tb1 1 rfl, by decide, by decide +kernel⟩
theorem ov_Comp_share : okV m_Comp_share := ⟨tb3 219 rfl, tb3 220 rfl⟩
def m_Comp_part : MD := (⟨"MetreFractions", "part", "(JIJ)J"⟩, prog_1_method_27_code, 9, (some FieldType.long))
theorem oc_Comp_part : okC m_Comp_part 3 := ⟨tb3 225 rfl, tb1 1 rfl, by decide, by decide +kernel⟩
theorem os_Comp_part : okS m_Comp_part := tb3 224 rfl
def m_Comp_rest : MD := (⟨"MetreFractions", "rest", "(JIJ)J"⟩, prog_1_method_28_code, 7, (some FieldType.long))
theorem oc_Comp_rest : okC m_Comp_rest 3 := ⟨tb3 229 rfl, tb1 1 rfl, by decide, by decide +kernel⟩
theorem os_Comp_rest : okS m_Comp_rest := tb3 228 rfl
def m_Mdl_init : MD := (⟨"MetreFractionsModel", "<init>", "()V"⟩, prog_7_method_1_code, 1, none)
theorem oc_Mdl_init : okC m_Mdl_init 0 := ⟨tb3 234 rfl, tb1 8 rfl, by decide, by decide +kernel⟩
theorem oi_Mdl_init : okI m_Mdl_init := ⟨rfl, tb3 233 rfl⟩
def m_Mdl_thrown : MD := (⟨"MetreFractionsModel", "thrown", "()I"⟩, prog_7_method_2_code, 1, (some FieldType.int))
theorem oc_Mdl_thrown : okC m_Mdl_thrown 0 := ⟨tb4 69 rfl, tb1 8 rfl, by decide, by decide +kernel⟩
theorem ov_Mdl_thrown : okV m_Mdl_thrown := ⟨tb4 67 rfl, tb4 68 rfl⟩
def m_Mdl_value : MD := (⟨"MetreFractionsModel", "value", "(JJI)I"⟩, prog_7_method_28_code, 6, (some FieldType.int))
theorem oc_Mdl_value : okC m_Mdl_value 3 := ⟨tb4 73 rfl, tb1 8 rfl, by decide, by decide +kernel⟩
theorem ov_Mdl_value : okV m_Mdl_value := ⟨tb4 71 rfl, tb4 72 rfl⟩
def m_Mdl_isUnit : MD := (⟨"MetreFractionsModel", "isUnit", "(I)Z"⟩, prog_7_method_26_code, 1, (some FieldType.boolean))
theorem oc_Mdl_isUnit : okC m_Mdl_isUnit 1 := ⟨tb4 76 rfl, tb1 8 rfl, by decide, by decide +kernel⟩
theorem os_Mdl_isUnit : okS m_Mdl_isUnit := tb4 75 rfl
def m_Mdl_setSize : MD := (⟨"MetreFractionsModel", "setSize", "(IJ)V"⟩, prog_7_method_27_code, 4, none)
theorem oc_Mdl_setSize : okC m_Mdl_setSize 2 := ⟨tb4 80 rfl, tb1 8 rfl, by decide, by decide +kernel⟩
theorem ov_Mdl_setSize : okV m_Mdl_setSize := ⟨tb4 79 rfl, tp (List.mem_of_getElem? (i := 14) rfl)⟩
def m_Mdl_set : MD := (⟨"MetreFractionsModel", "set", "(IJ)V"⟩, prog_7_method_5_code, 6, none)
theorem oc_Mdl_set : okC m_Mdl_set 2 := ⟨tb4 86 rfl, tb1 8 rfl, by decide, by decide +kernel⟩
theorem ov_Mdl_set : okV m_Mdl_set := ⟨tb4 85 rfl, tp (List.mem_of_getElem? (i := 15) rfl)⟩
def m_Mdl_reduce : MD := (⟨"MetreFractionsModel", "reduce", "()V"⟩, prog_7_method_17_code, 4, none)
theorem oc_Mdl_reduce : okC m_Mdl_reduce 0 := ⟨tb4 91 rfl, tb1 8 rfl, by decide, by decide +kernel⟩
theorem ov_Mdl_reduce : okV m_Mdl_reduce := ⟨tb4 90 rfl, tp (List.mem_of_getElem? (i := 16) rfl)⟩
def m_Mdl_copy : MD := (⟨"MetreFractionsModel", "copy", "(II)V"⟩, prog_7_method_6_code, 4, none)
theorem oc_Mdl_copy : okC m_Mdl_copy 2 := ⟨tb4 95 rfl, tb1 8 rfl, by decide, by decide +kernel⟩
theorem ov_Mdl_copy : okV m_Mdl_copy := ⟨tb4 94 rfl, tp (List.mem_of_getElem? (i := 17) rfl)⟩
def m_Mdl_divide : MD := (⟨"MetreFractionsModel", "divide", "(II)V"⟩, prog_7_method_15_code, 18, none)
theorem oc_Mdl_divide : okC m_Mdl_divide 2 := ⟨tb4 99 rfl, tb1 8 rfl, by decide, by decide +kernel⟩
theorem ov_Mdl_divide : okV m_Mdl_divide := ⟨tb4 98 rfl, tp (List.mem_of_getElem? (i := 18) rfl)⟩
def m_Mdl_compare : MD := (⟨"MetreFractionsModel", "compare", "(II)I"⟩, prog_7_method_7_code, 4, (some FieldType.int))
theorem oc_Mdl_compare : okC m_Mdl_compare 2 := ⟨tb4 103 rfl, tb1 8 rfl, by decide, by decide +kernel⟩
theorem ov_Mdl_compare : okV m_Mdl_compare := ⟨tb4 102 rfl, tp (List.mem_of_getElem? (i := 19) rfl)⟩
def m_Mdl_small : MD := (⟨"MetreFractionsModel", "small", "(IJ)J"⟩, prog_7_method_12_code, 9, (some FieldType.long))
theorem oc_Mdl_small : okC m_Mdl_small 2 := ⟨tb4 107 rfl, tb1 8 rfl, by decide, by decide +kernel⟩
theorem ov_Mdl_small : okV m_Mdl_small := ⟨tb4 106 rfl, tp (List.mem_of_getElem? (i := 20) rfl)⟩
def m_Mdl_trim : MD := (⟨"MetreFractionsModel", "trim", "(I)V"⟩, prog_7_method_4_code, 2, none)
theorem oc_Mdl_trim : okC m_Mdl_trim 1 := ⟨tb4 111 rfl, tb1 8 rfl, by decide, by decide +kernel⟩
theorem ov_Mdl_trim : okV m_Mdl_trim := ⟨tb4 110 rfl, tp (List.mem_of_getElem? (i := 21) rfl)⟩
def m_Mdl_scale : MD := (⟨"MetreFractionsModel", "scale", "(IJ)V"⟩, prog_7_method_11_code, 9, none)
theorem oc_Mdl_scale : okC m_Mdl_scale 2 := ⟨tb4 116 rfl, tb1 8 rfl, by decide, by decide +kernel⟩
theorem ov_Mdl_scale : okV m_Mdl_scale := ⟨tb4 115 rfl, tp (List.mem_of_getElem? (i := 22) rfl)⟩
def m_Mdl_takeOff : MD := (⟨"MetreFractionsModel", "takeOff", "(IIII)Z"⟩, prog_7_method_13_code, 12, (some FieldType.boolean))
theorem oc_Mdl_takeOff : okC m_Mdl_takeOff 4 := ⟨tb4 120 rfl, tb1 8 rfl, by decide, by decide +kernel⟩
theorem ov_Mdl_takeOff : okV m_Mdl_takeOff := ⟨tb4 119 rfl, tp (List.mem_of_getElem? (i := 23) rfl)⟩
def m_Mdl_putOn : MD := (⟨"MetreFractionsModel", "putOn", "(III)V"⟩, prog_7_method_14_code, 9, none)
theorem oc_Mdl_putOn : okC m_Mdl_putOn 3 := ⟨tb4 124 rfl, tb1 8 rfl, by decide, by decide +kernel⟩
theorem ov_Mdl_putOn : okV m_Mdl_putOn := ⟨tb4 123 rfl, tp (List.mem_of_getElem? (i := 24) rfl)⟩
def m_Mdl_keep : MD := (⟨"MetreFractionsModel", "keep", "(I)I"⟩, prog_7_method_24_code, 4, (some FieldType.int))
theorem oc_Mdl_keep : okC m_Mdl_keep 1 := ⟨tb4 129 rfl, tb1 8 rfl, by decide, by decide +kernel⟩
theorem ov_Mdl_keep : okV m_Mdl_keep := ⟨tb4 128 rfl, tp (List.mem_of_getElem? (i := 25) rfl)⟩
def m_Mdl_digits : MD := (⟨"MetreFractionsModel", "digits", "(I)I"⟩, prog_7_method_16_code, 4, (some FieldType.int))
theorem oc_Mdl_digits : okC m_Mdl_digits 1 := ⟨tb4 133 rfl, tb1 8 rfl, by decide, by decide +kernel⟩
theorem ov_Mdl_digits : okV m_Mdl_digits := ⟨tb4 132 rfl, tp (List.mem_of_getElem? (i := 26) rfl)⟩
def m_Mdl_add : MD := (⟨"MetreFractionsModel", "add", "(IIZ)I"⟩, prog_7_method_29_code, 4, (some FieldType.int))
theorem oc_Mdl_add : okC m_Mdl_add 3 := ⟨tb4 137 rfl, tb1 8 rfl, by decide, by decide +kernel⟩
theorem ov_Mdl_add : okV m_Mdl_add := ⟨tb4 135 rfl, tb4 136 rfl⟩
def m_Mdl_isValue : MD := (⟨"MetreFractionsModel", "isValue", "(I)Z"⟩, prog_7_method_25_code, 2, (some FieldType.boolean))
theorem oc_Mdl_isValue : okC m_Mdl_isValue 1 := ⟨tb4 141 rfl, tb1 8 rfl, by decide, by decide +kernel⟩
theorem ov_Mdl_isValue : okV m_Mdl_isValue := ⟨tb4 140 rfl, tp (List.mem_of_getElem? (i := 27) rfl)⟩
def m_Mdl_load : MD := (⟨"MetreFractionsModel", "load", "(I)V"⟩, prog_7_method_19_code, 2, none)
theorem oc_Mdl_load : okC m_Mdl_load 1 := ⟨tb4 145 rfl, tb1 8 rfl, by decide, by decide +kernel⟩
theorem ov_Mdl_load : okV m_Mdl_load := ⟨tb4 144 rfl, tp (List.mem_of_getElem? (i := 28) rfl)⟩
def m_Mdl_take : MD := (⟨"MetreFractionsModel", "take", "(III)V"⟩, prog_7_method_18_code, 5, none)
theorem oc_Mdl_take : okC m_Mdl_take 3 := ⟨tb4 149 rfl, tb1 8 rfl, by decide, by decide +kernel⟩
theorem ov_Mdl_take : okV m_Mdl_take := ⟨tb4 148 rfl, tp (List.mem_of_getElem? (i := 29) rfl)⟩
def m_Mdl_loadOther : MD := (⟨"MetreFractionsModel", "loadOther", "(I)V"⟩, prog_7_method_20_code, 2, none)
theorem oc_Mdl_loadOther : okC m_Mdl_loadOther 1 := ⟨tb4 153 rfl, tb1 8 rfl, by decide, by decide +kernel⟩
theorem ov_Mdl_loadOther : okV m_Mdl_loadOther := ⟨tb4 152 rfl, tp (List.mem_of_getElem? (i := 30) rfl)⟩
def m_Mdl_addOther : MD := (⟨"MetreFractionsModel", "addOther", "(I)V"⟩, prog_7_method_21_code, 3, none)
theorem oc_Mdl_addOther : okC m_Mdl_addOther 1 := ⟨tb4 157 rfl, tb1 8 rfl, by decide, by decide +kernel⟩
theorem ov_Mdl_addOther : okV m_Mdl_addOther := ⟨tb4 156 rfl, tp (List.mem_of_getElem? (i := 31) rfl)⟩
def m_Mdl_multiply : MD := (⟨"MetreFractionsModel", "multiply", "(III)V"⟩, prog_7_method_10_code, 13, none)
theorem oc_Mdl_multiply : okC m_Mdl_multiply 3 := ⟨tb4 161 rfl, tb1 8 rfl, by decide, by decide +kernel⟩
theorem ov_Mdl_multiply : okV m_Mdl_multiply := ⟨tb4 160 rfl, tp (List.mem_of_getElem? (i := 32) rfl)⟩
def m_Mdl_plus : MD := (⟨"MetreFractionsModel", "plus", "(II)V"⟩, prog_7_method_8_code, 7, none)
theorem oc_Mdl_plus : okC m_Mdl_plus 2 := ⟨tb4 165 rfl, tb1 8 rfl, by decide, by decide +kernel⟩
theorem ov_Mdl_plus : okV m_Mdl_plus := ⟨tb4 164 rfl, tp (List.mem_of_getElem? (i := 33) rfl)⟩
def m_Mdl_limb : MD := (⟨"MetreFractionsModel", "limb", "(II)I"⟩, prog_7_method_3_code, 3, (some FieldType.int))
theorem oc_Mdl_limb : okC m_Mdl_limb 2 := ⟨tb4 169 rfl, tb1 8 rfl, by decide, by decide +kernel⟩
theorem ov_Mdl_limb : okV m_Mdl_limb := ⟨tb4 168 rfl, tp (List.mem_of_getElem? (i := 34) rfl)⟩
def m_Mdl_subtract : MD := (⟨"MetreFractionsModel", "subtract", "(II)V"⟩, prog_7_method_9_code, 6, none)
theorem oc_Mdl_subtract : okC m_Mdl_subtract 2 := ⟨tb4 173 rfl, tb1 8 rfl, by decide, by decide +kernel⟩
theorem ov_Mdl_subtract : okV m_Mdl_subtract := ⟨tb4 172 rfl, tp (List.mem_of_getElem? (i := 35) rfl)⟩
def m_Mdl_times : MD := (⟨"MetreFractionsModel", "times", "(II)I"⟩, prog_7_method_30_code, 4, (some FieldType.int))
theorem oc_Mdl_times : okC m_Mdl_times 2 := ⟨tb4 177 rfl, tb1 8 rfl, by decide, by decide +kernel⟩
theorem ov_Mdl_times : okV m_Mdl_times := ⟨tb4 175 rfl, tb4 176 rfl⟩
def m_Mdl_timesOther : MD := (⟨"MetreFractionsModel", "timesOther", "()V"⟩, prog_7_method_22_code, 1, none)
theorem oc_Mdl_timesOther : okC m_Mdl_timesOther 0 := ⟨tb4 181 rfl, tb1 8 rfl, by decide, by decide +kernel⟩
theorem ov_Mdl_timesOther : okV m_Mdl_timesOther := ⟨tb4 180 rfl, tp (List.mem_of_getElem? (i := 36) rfl)⟩
def m_Mdl_over : MD := (⟨"MetreFractionsModel", "over", "(II)I"⟩, prog_7_method_31_code, 4, (some FieldType.int))
theorem oc_Mdl_over : okC m_Mdl_over 2 := ⟨tb4 185 rfl, tb1 8 rfl, by decide, by decide +kernel⟩
theorem ov_Mdl_over : okV m_Mdl_over := ⟨tb4 183 rfl, tb4 184 rfl⟩
def m_Mdl_overOther : MD := (⟨"MetreFractionsModel", "overOther", "()V"⟩, prog_7_method_23_code, 1, none)
theorem oc_Mdl_overOther : okC m_Mdl_overOther 0 := ⟨tb4 189 rfl, tb1 8 rfl, by decide, by decide +kernel⟩
theorem ov_Mdl_overOther : okV m_Mdl_overOther := ⟨tb4 188 rfl, tp (List.mem_of_getElem? (i := 37) rfl)⟩
def m_Mdl_order : MD := (⟨"MetreFractionsModel", "order", "(II)I"⟩, prog_7_method_33_code, 3, (some FieldType.int))
theorem oc_Mdl_order : okC m_Mdl_order 2 := ⟨tb4 193 rfl, tb1 8 rfl, by decide, by decide +kernel⟩
theorem ov_Mdl_order : okV m_Mdl_order := ⟨tb4 191 rfl, tb4 192 rfl⟩
def m_Mdl_compareValues : MD := (⟨"MetreFractionsModel", "compareValues", "(II)I"⟩, prog_7_method_32_code, 3, (some FieldType.int))
theorem oc_Mdl_compareValues : okC m_Mdl_compareValues 2 := ⟨tb4 197 rfl, tb1 8 rfl, by decide, by decide +kernel⟩
theorem ov_Mdl_compareValues : okV m_Mdl_compareValues := ⟨tb4 196 rfl, tp (List.mem_of_getElem? (i := 38) rfl)⟩
def m_Mdl_round : MD := (⟨"MetreFractionsModel", "round", "(III)I"⟩, prog_7_method_34_code, 8, (some FieldType.int))
theorem oc_Mdl_round : okC m_Mdl_round 3 := ⟨tb4 201 rfl, tb1 8 rfl, by decide, by decide +kernel⟩
theorem ov_Mdl_round : okV m_Mdl_round := ⟨tb4 199 rfl, tb4 200 rfl⟩
def m_Mdl_prism : MD := (⟨"MetreFractionsModel", "prism", "(IIII)I"⟩, prog_7_method_35_code, 6, (some FieldType.int))
theorem oc_Mdl_prism : okC m_Mdl_prism 4 := ⟨tb4 206 rfl, tb1 8 rfl, by decide, by decide +kernel⟩
theorem ov_Mdl_prism : okV m_Mdl_prism := ⟨tb4 204 rfl, tb4 205 rfl⟩
def m_Mdl_told : MD := (⟨"MetreFractionsModel", "told", "(II)I"⟩, prog_7_method_36_code, 3, (some FieldType.int))
theorem oc_Mdl_told : okC m_Mdl_told 2 := ⟨tb4 212 rfl, tb1 8 rfl, by decide, by decide +kernel⟩
theorem ov_Mdl_told : okV m_Mdl_told := ⟨tb4 210 rfl, tb4 211 rfl⟩
def m_Mdl_digit : MD := (⟨"MetreFractionsModel", "digit", "(III)I"⟩, prog_7_method_37_code, 8, (some FieldType.int))
theorem oc_Mdl_digit : okC m_Mdl_digit 3 := ⟨tb4 216 rfl, tb1 8 rfl, by decide, by decide +kernel⟩
theorem ov_Mdl_digit : okV m_Mdl_digit := ⟨tb4 214 rfl, tb4 215 rfl⟩
def m_Mdl_clear : MD := (⟨"MetreFractionsModel", "clear", "()I"⟩, prog_7_method_38_code, 2, (some FieldType.int))
theorem oc_Mdl_clear : okC m_Mdl_clear 0 := ⟨tb4 220 rfl, tb1 8 rfl, by decide, by decide +kernel⟩
theorem ov_Mdl_clear : okV m_Mdl_clear := ⟨tb4 218 rfl, tb4 219 rfl⟩
def m_Mdl_row : MD := (⟨"MetreFractionsModel", "row", "()I"⟩, prog_7_method_39_code, 1, (some FieldType.int))
theorem oc_Mdl_row : okC m_Mdl_row 0 := ⟨tb4 224 rfl, tb1 8 rfl, by decide, by decide +kernel⟩
theorem ov_Mdl_row : okV m_Mdl_row := ⟨tb4 222 rfl, tb4 223 rfl⟩
def m_Mdl_corner : MD := (⟨"MetreFractionsModel", "corner", "(III)I"⟩, prog_7_method_41_code, 5, (some FieldType.int))
theorem oc_Mdl_corner : okC m_Mdl_corner 3 := ⟨tb4 228 rfl, tb1 8 rfl, by decide, by decide +kernel⟩
theorem ov_Mdl_corner : okV m_Mdl_corner := ⟨tb4 226 rfl, tb4 227 rfl⟩
def m_Mdl_isRow : MD := (⟨"MetreFractionsModel", "isRow", "(I)Z"⟩, prog_7_method_40_code, 2, (some FieldType.boolean))
theorem oc_Mdl_isRow : okC m_Mdl_isRow 1 := ⟨tb4 232 rfl, tb1 8 rfl, by decide, by decide +kernel⟩
theorem ov_Mdl_isRow : okV m_Mdl_isRow := ⟨tb4 231 rfl, tp (List.mem_of_getElem? (i := 39) rfl)⟩
def m_Mdl_at : MD := (⟨"MetreFractionsModel", "at", "(II)I"⟩, prog_7_method_42_code, 7, (some FieldType.int))
theorem oc_Mdl_at : okC m_Mdl_at 2 := ⟨tb4 236 rfl, tb1 8 rfl, by decide, by decide +kernel⟩
theorem ov_Mdl_at : okV m_Mdl_at := ⟨tb4 234 rfl, tb4 235 rfl⟩
def m_Mdl_stash : MD := (⟨"MetreFractionsModel", "stash", "()V"⟩, prog_7_method_43_code, 2, none)
theorem oc_Mdl_stash : okC m_Mdl_stash 0 := ⟨tb5 0 rfl, tb1 8 rfl, by decide, by decide +kernel⟩
theorem ov_Mdl_stash : okV m_Mdl_stash := ⟨tb4 239 rfl, tp (List.mem_of_getElem? (i := 40) rfl)⟩
def m_Mdl_unstash : MD := (⟨"MetreFractionsModel", "unstash", "()V"⟩, prog_7_method_44_code, 2, none)
theorem oc_Mdl_unstash : okC m_Mdl_unstash 0 := ⟨tb5 4 rfl, tb1 8 rfl, by decide, by decide +kernel⟩
theorem ov_Mdl_unstash : okV m_Mdl_unstash := ⟨tb5 3 rfl, tp (List.mem_of_getElem? (i := 41) rfl)⟩
def m_Mdl_exchange : MD := (⟨"MetreFractionsModel", "exchange", "()V"⟩, prog_7_method_45_code, 2, none)
theorem oc_Mdl_exchange : okC m_Mdl_exchange 0 := ⟨tb5 8 rfl, tb1 8 rfl, by decide, by decide +kernel⟩
theorem ov_Mdl_exchange : okV m_Mdl_exchange := ⟨tb5 7 rfl, tp (List.mem_of_getElem? (i := 42) rfl)⟩
def m_Mdl_area : MD := (⟨"MetreFractionsModel", "area", "(I)I"⟩, prog_7_method_47_code, 5, (some FieldType.int))
theorem oc_Mdl_area : okC m_Mdl_area 1 := ⟨tb5 12 rfl, tb1 8 rfl, by decide, by decide +kernel⟩
theorem ov_Mdl_area : okV m_Mdl_area := ⟨tb5 10 rfl, tb5 11 rfl⟩
def m_Mdl_addHalf : MD := (⟨"MetreFractionsModel", "addHalf", "(II)V"⟩, prog_7_method_46_code, 3, none)
theorem oc_Mdl_addHalf : okC m_Mdl_addHalf 2 := ⟨tb5 16 rfl, tb1 8 rfl, by decide, by decide +kernel⟩
theorem ov_Mdl_addHalf : okV m_Mdl_addHalf := ⟨tb5 15 rfl, tp (List.mem_of_getElem? (i := 43) rfl)⟩
def m_Mdl_weight : MD := (⟨"MetreFractionsModel", "weight", "(I)I"⟩, prog_7_method_48_code, 2, (some FieldType.int))
theorem oc_Mdl_weight : okC m_Mdl_weight 1 := ⟨tb5 20 rfl, tb1 8 rfl, by decide, by decide +kernel⟩
theorem ov_Mdl_weight : okV m_Mdl_weight := ⟨tb5 18 rfl, tb5 19 rfl⟩
def m_Mdl_noWeights : MD := (⟨"MetreFractionsModel", "noWeights", "()I"⟩, prog_7_method_49_code, 2, (some FieldType.int))
theorem oc_Mdl_noWeights : okC m_Mdl_noWeights 0 := ⟨tb5 24 rfl, tb1 8 rfl, by decide, by decide +kernel⟩
theorem ov_Mdl_noWeights : okV m_Mdl_noWeights := ⟨tb5 22 rfl, tb5 23 rfl⟩
def m_Mdl_share : MD := (⟨"MetreFractionsModel", "share", "(JI)J"⟩, prog_7_method_50_code, 15, (some FieldType.long))
theorem oc_Mdl_share : okC m_Mdl_share 2 := ⟨tb5 28 rfl, tb1 8 rfl, by decide, by decide +kernel⟩
theorem ov_Mdl_share : okV m_Mdl_share := ⟨tb5 26 rfl, tb5 27 rfl⟩
/-- a method link -/
theorem ii_Law : Cond.initialized R_Law ∈ TBL := tb1 0 rfl
theorem ii_Comp : Cond.initialized R_Comp ∈ TBL := tb1 1 rfl
theorem ii_ABC : Cond.initialized R_ABC ∈ TBL := tb1 2 rfl
theorem ii_ABL : Cond.initialized R_ABL ∈ TBL := tb1 3 rfl
theorem ii_AL : Cond.initialized R_AL ∈ TBL := tb1 4 rfl
theorem ii_Desk : Cond.initialized R_Desk ∈ TBL := tb1 5 rfl
theorem ii_Frac : Cond.initialized R_Frac ∈ TBL := tb1 6 rfl
theorem ii_Whole : Cond.initialized R_Whole ∈ TBL := tb1 7 rfl
theorem ii_Mdl : Cond.initialized R_Mdl ∈ TBL := tb1 8 rfl
theorem ii_Thr : Cond.initialized R_Thr ∈ TBL := tb1 9 rfl
theorem ii_Exc : Cond.initialized R_Exc ∈ TBL := tb1 10 rfl
theorem ii_RtE : Cond.initialized R_RtE ∈ TBL := tb1 11 rfl
theorem ii_ArE : Cond.initialized R_ArE ∈ TBL := tb1 12 rfl
theorem ii_Str : Cond.initialized R_Str ∈ TBL := tb1 13 rfl
theorem ii_IaE : Cond.initialized R_IaE ∈ TBL := tb1 14 rfl
theorem ii_Sys : Cond.initialized R_Sys ∈ TBL := tb1 15 rfl
theorem ii_Int : Cond.initialized R_Int ∈ TBL := tb1 16 rfl
theorem ii_Math : Cond.initialized R_Math ∈ TBL := tb1 17 rfl
theorem ii_Objs : Cond.initialized R_Objs ∈ TBL := tb1 18 rfl
theorem ii_Prec : Cond.initialized R_Prec ∈ TBL := tb1 19 rfl
theorem ii_ASup : Cond.initialized R_ASup ∈ TBL := tb1 20 rfl
theorem ii_Arrs : Cond.initialized R_Arrs ∈ TBL := tb1 21 rfl
theorem ii_IoE : Cond.initialized R_IoE ∈ TBL := tb1 22 rfl
theorem ii_AiE : Cond.initialized R_AiE ∈ TBL := tb1 23 rfl
theorem ii_Row : Cond.initialized R_Row ∈ TBL := tb1 24 rfl
theorem cl_Law_8 : Cond.classLink R_Law 8 "MetreFractions" ∈ TBL := tb1 25 rfl
theorem in_Comp : Cond.instantiable R_Comp 6 ∈ TBL := tb1 26 rfl
theorem ml_Law_64 : Cond.methodLink R_Law 64 m_Comp_init.1 ∈ TBL := tb1 27 rfl
theorem ml_Comp_1 : Cond.methodLink R_Comp 1 m_Obj_init.1 ∈ TBL := tb1 30 rfl
theorem cl_Comp_7 : Cond.classLink R_Comp 7 "java/util/ArrayList" ∈ TBL := tb1 33 rfl
theorem in_AL : Cond.instantiable R_AL 3 ∈ TBL := tb1 34 rfl
theorem ml_Comp_9 : Cond.methodLink R_Comp 9 m_AL_init.1 ∈ TBL := tb1 35 rfl
theorem ml_AL_1 : Cond.methodLink R_AL 1 m_ABL_init.1 ∈ TBL := tb1 38 rfl
theorem ml_ABL_1 : Cond.methodLink R_ABL 1 m_ABC_init.1 ∈ TBL := tb1 41 rfl
theorem ml_ABC_1 : Cond.methodLink R_ABC 1 m_Obj_init.1 ∈ TBL := tb1 44 rfl
theorem cl_Comp_26 : Cond.classLink R_Comp 26 "MetreFractions$Desk" ∈ TBL := tb1 59 rfl
theorem in_Desk : Cond.instantiable R_Desk 6 ∈ TBL := tb1 60 rfl
theorem mn_Comp_28 : Cond.methodLinkNest R_Comp 28 m_Desk_init.1 "MetreFractions" ∈ TBL := tb1 61 rfl
theorem ml_Desk_3 : Cond.methodLink R_Desk 3 m_Obj_init.1 ∈ TBL := tb1 64 rfl
theorem cl_Desk_9 : Cond.classLink R_Desk 9 "MetreFractions$Fraction" ∈ TBL := tb1 65 rfl
theorem in_Frac : Cond.instantiable R_Frac 4 ∈ TBL := tb1 66 rfl
theorem ml_Desk_11 : Cond.methodLink R_Desk 11 m_Frac_init.1 ∈ TBL := tb1 67 rfl
theorem ml_Frac_3 : Cond.methodLink R_Frac 3 m_Obj_init.1 ∈ TBL := tb1 70 rfl
theorem cl_Frac_9 : Cond.classLink R_Frac 9 "MetreFractions$Whole" ∈ TBL := tb1 71 rfl
theorem in_Whole : Cond.instantiable R_Whole 2 ∈ TBL := tb1 72 rfl
theorem ml_Frac_11 : Cond.methodLink R_Frac 11 m_Whole_init.1 ∈ TBL := tb1 73 rfl
theorem ml_Whole_3 : Cond.methodLink R_Whole 3 m_Obj_init.1 ∈ TBL := tb1 76 rfl
theorem cl_Desk_20 : Cond.classLink R_Desk 20 "MetreFractions$Whole" ∈ TBL := tb1 106 rfl
theorem ml_Desk_22 : Cond.methodLink R_Desk 22 m_Whole_init.1 ∈ TBL := tb1 107 rfl
theorem ml_Law_108 : Cond.methodLink R_Law 108 m_Comp_clear.1 ∈ TBL := tb1 147 rfl
theorem ml_Comp_39 : Cond.methodLink R_Comp 39 m_AL_size.1 ∈ TBL := tb1 151 rfl
theorem ml_Comp_160 : Cond.methodLink R_Comp 160 m_AL_addAll.1 ∈ TBL := tb1 155 rfl
theorem ml_AL_42 : Cond.methodLink R_AL 42 ⟨"java/util/Collection", "toArray", "()[Ljava/lang/Object;"⟩ ∈ TBL := tb1 160 rfl
theorem ca_AL_Col : Cond.castable R_AL R_Col ∈ TBL := tb1 163 rfl
theorem ml_AL_66 : Cond.methodLink R_AL 66 m_Arrs_copyOf2.1 ∈ TBL := tb1 169 rfl
theorem ml_Arrs_86 : Cond.methodLink R_Arrs 86 ⟨"java/lang/Object", "getClass", "()Ljava/lang/Class;"⟩ ∈ TBL := tb1 172 rfl
theorem ml_Arrs_300 : Cond.methodLink R_Arrs 300 m_Arrs_copyOf3.1 ∈ TBL := tb1 187 rfl
theorem cl_Arrs_110 : Cond.classLink R_Arrs 110 "[Ljava/lang/Object;" ∈ TBL := tb1 190 rfl
theorem cl_Arrs_2 : Cond.classLink R_Arrs 2 "java/lang/Object" ∈ TBL := tb1 192 rfl
theorem ml_Arrs_304 : Cond.methodLink R_Arrs 304 m_Math_min.1 ∈ TBL := tb1 193 rfl
theorem ml_Arrs_150 : Cond.methodLink R_Arrs 150 ⟨"java/lang/System", "arraycopy", "(Ljava/lang/Object;ILjava/lang/Object;II)V"⟩ ∈ TBL := tb1 196 rfl
theorem ml_AL_69 : Cond.methodLink R_AL 69 m_AL_grow.1 ∈ TBL := tb1 199 rfl
theorem ml_AL_73 : Cond.methodLink R_AL 73 m_ASup_newLength.1 ∈ TBL := tb1 203 rfl
theorem ml_ASup_194 : Cond.methodLink R_ASup 194 m_Math_max.1 ∈ TBL := tb1 206 rfl
theorem cn_ASup_200 : Cond.constant R_ASup 200 (2147483639) ∈ TBL := tb1 209 rfl
theorem ml_ASup_201 : Cond.methodLink R_ASup 201 m_ASup_hugeLength.1 ∈ TBL := tb1 210 rfl
theorem ml_AL_79 : Cond.methodLink R_AL 79 m_Math_max.1 ∈ TBL := tb1 213 rfl
theorem cl_AL_7 : Cond.classLink R_AL 7 "java/lang/Object" ∈ TBL := tb1 214 rfl
theorem ml_AL_112 : Cond.methodLink R_AL 112 ⟨"java/lang/System", "arraycopy", "(Ljava/lang/Object;ILjava/lang/Object;II)V"⟩ ∈ TBL := tb1 215 rfl
theorem ml_Comp_164 : Cond.methodLink R_Comp 164 m_AL_clear.1 ∈ TBL := tb1 216 rfl
theorem ml_Law_112 : Cond.methodLink R_Law 112 m_Comp_row.1 ∈ TBL := tb1 220 rfl
theorem cl_Comp_167 : Cond.classLink R_Comp 167 "MetreFractions$Row" ∈ TBL := tb1 224 rfl
theorem in_Row : Cond.instantiable R_Row 2 ∈ TBL := tb1 225 rfl
theorem mn_Comp_169 : Cond.methodLinkNest R_Comp 169 m_Row_init.1 "MetreFractions" ∈ TBL := tb1 226 rfl
theorem ml_Row_1 : Cond.methodLink R_Row 1 m_Obj_init.1 ∈ TBL := tb1 229 rfl
theorem cl_Row_7 : Cond.classLink R_Row 7 "java/util/ArrayList" ∈ TBL := tb1 230 rfl
theorem ml_Row_9 : Cond.methodLink R_Row 9 m_AL_init.1 ∈ TBL := tb1 231 rfl
theorem ml_Comp_78 : Cond.methodLink R_Comp 78 m_AL_add.1 ∈ TBL := tb2 1 rfl
theorem ml_AL_131 : Cond.methodLink R_AL 131 m_AL_add3.1 ∈ TBL := tb2 5 rfl
theorem ml_AL_129 : Cond.methodLink R_AL 129 m_AL_grow0.1 ∈ TBL := tb2 9 rfl
theorem ml_Law_129 : Cond.methodLink R_Law 129 m_Comp_noWeights.1 ∈ TBL := tb2 13 rfl
theorem ml_Law_70 : Cond.methodLink R_Law 70 m_Law_value.1 ∈ TBL := tb2 17 rfl
theorem cl_Law_13 : Cond.classLink R_Law 13 "java/lang/ArithmeticException" ∈ TBL := tb2 20 rfl
theorem in_ArE : Cond.instantiable R_ArE 6 ∈ TBL := tb2 21 rfl
theorem ml_ArE_7 : Cond.methodLink R_ArE 7 m_RtE_initS.1 ∈ TBL := tb2 24 rfl
theorem ml_RtE_7 : Cond.methodLink R_RtE 7 m_Exc_initS.1 ∈ TBL := tb2 27 rfl
theorem ml_Exc_7 : Cond.methodLink R_Exc 7 m_Thr_initS.1 ∈ TBL := tb2 30 rfl
theorem ml_Thr_1 : Cond.methodLink R_Thr 1 m_Obj_init.1 ∈ TBL := tb2 33 rfl
theorem ml_Thr_27 : Cond.methodLink R_Thr 27 ⟨"java/lang/Throwable", "fillInStackTrace", "()Ljava/lang/Throwable;"⟩ ∈ TBL := tb2 38 rfl
theorem ml_Thr_202 : Cond.methodLink R_Thr 202 ⟨"java/lang/Throwable", "fillInStackTrace", "(I)Ljava/lang/Throwable;"⟩ ∈ TBL := tb2 46 rfl
theorem in_Thr : Cond.instantiable R_Thr 6 ∈ TBL := tb2 49 rfl
theorem ca_ArE_ArE : Cond.castable R_ArE R_ArE ∈ TBL := tb2 69 rfl
theorem in_Str : Cond.instantiable R_Str 4 ∈ TBL := tb2 86 rfl
theorem cl_Law_15 : Cond.classLink R_Law 15 "java/lang/IllegalArgumentException" ∈ TBL := tb2 92 rfl
theorem ml_Law_7 : Cond.methodLink R_Law 7 m_Comp_value.1 ∈ TBL := tb2 93 rfl
theorem cl_Comp_82 : Cond.classLink R_Comp 82 "java/lang/ArithmeticException" ∈ TBL := tb2 97 rfl
theorem ml_Comp_84 : Cond.methodLink R_Comp 84 m_ArE_init.1 ∈ TBL := tb2 98 rfl
theorem ml_ArE_1 : Cond.methodLink R_ArE 1 m_RtE_init.1 ∈ TBL := tb2 101 rfl
theorem ml_RtE_1 : Cond.methodLink R_RtE 1 m_Exc_init.1 ∈ TBL := tb2 104 rfl
theorem ml_Exc_1 : Cond.methodLink R_Exc 1 m_Thr_init.1 ∈ TBL := tb2 107 rfl
theorem ml_Comp_85 : Cond.methodLink R_Comp 85 m_Comp_isUnit.1 ∈ TBL := tb2 108 rfl
theorem ml_Comp_89 : Cond.methodLink R_Comp 89 m_Comp_need.1 ∈ TBL := tb2 111 rfl
theorem cl_Comp_33 : Cond.classLink R_Comp 33 "java/lang/IllegalArgumentException" ∈ TBL := tb2 114 rfl
theorem in_IaE : Cond.instantiable R_IaE 6 ∈ TBL := tb2 115 rfl
theorem ca_IaE_IaE : Cond.castable R_IaE R_IaE ∈ TBL := tb2 116 rfl
theorem ml_Comp_35 : Cond.methodLink R_Comp 35 m_IaE_init.1 ∈ TBL := tb2 123 rfl
theorem ml_IaE_1 : Cond.methodLink R_IaE 1 m_RtE_init.1 ∈ TBL := tb2 126 rfl
theorem ml_Comp_93 : Cond.methodLink R_Comp 93 m_Desk_set.1 ∈ TBL := tb2 129 rfl
theorem ml_Desk_42 : Cond.methodLink R_Desk 42 m_Whole_set.1 ∈ TBL := tb2 133 rfl
theorem cn_Whole_19 : Cond.constantLong R_Whole 19 (1000000000) ∈ TBL := tb2 137 rfl
theorem ml_Desk_57 : Cond.methodLink R_Desk 57 m_Desk_reduce.1 ∈ TBL := tb2 138 rfl
theorem ml_Desk_60 : Cond.methodLink R_Desk 60 m_Whole_isNothing.1 ∈ TBL := tb2 142 rfl
theorem ml_Desk_64 : Cond.methodLink R_Desk 64 m_Whole_copy.1 ∈ TBL := tb2 146 rfl
theorem ml_Whole_21 : Cond.methodLink R_Whole 21 ⟨"java/lang/System", "arraycopy", "(Ljava/lang/Object;ILjava/lang/Object;II)V"⟩ ∈ TBL := tb2 150 rfl
theorem ml_Desk_68 : Cond.methodLink R_Desk 68 m_Whole_divide.1 ∈ TBL := tb2 151 rfl
theorem ml_Whole_42 : Cond.methodLink R_Whole 42 m_Whole_against.1 ∈ TBL := tb2 155 rfl
theorem ml_Whole_27 : Cond.methodLink R_Whole 27 m_Int_compare.1 ∈ TBL := tb2 159 rfl
theorem cn_Whole_38 : Cond.constant R_Whole 38 (1000000000) ∈ TBL := tb2 162 rfl
theorem ml_Whole_46 : Cond.methodLink R_Whole 46 m_Whole_copy.1 ∈ TBL := tb2 163 rfl
theorem ml_Whole_50 : Cond.methodLink R_Whole 50 m_Whole_times.1 ∈ TBL := tb2 164 rfl
theorem ml_Whole_39 : Cond.methodLink R_Whole 39 m_Whole_trim.1 ∈ TBL := tb2 168 rfl
theorem cn_Whole_54 : Cond.constantLong R_Whole 54 (999999999) ∈ TBL := tb2 172 rfl
theorem ml_Whole_56 : Cond.methodLink R_Whole 56 m_Math_minJ.1 ∈ TBL := tb2 173 rfl
theorem ml_Whole_60 : Cond.methodLink R_Whole 60 m_Whole_take3.1 ∈ TBL := tb2 176 rfl
theorem ml_Whole_72 : Cond.methodLink R_Whole 72 m_Math_floorMod.1 ∈ TBL := tb2 180 rfl
theorem ml_Whole_64 : Cond.methodLink R_Whole 64 m_Whole_giveBack.1 ∈ TBL := tb2 183 rfl
theorem ml_Whole_68 : Cond.methodLink R_Whole 68 m_Whole_cut.1 ∈ TBL := tb2 187 rfl
theorem ml_Comp_97 : Cond.methodLink R_Comp 97 m_Comp_keep.1 ∈ TBL := tb2 191 rfl
theorem ml_Comp_67 : Cond.methodLink R_Comp 67 m_Frac_isLong.1 ∈ TBL := tb2 195 rfl
theorem ml_Comp_70 : Cond.methodLink R_Comp 70 m_Comp_fresh.1 ∈ TBL := tb2 199 rfl
theorem ml_Comp_53 : Cond.methodLink R_Comp 53 m_AL_isEmpty.1 ∈ TBL := tb2 203 rfl
theorem cl_Comp_51 : Cond.classLink R_Comp 51 "MetreFractions$Fraction" ∈ TBL := tb2 207 rfl
theorem ml_Comp_57 : Cond.methodLink R_Comp 57 m_Frac_init.1 ∈ TBL := tb2 208 rfl
theorem ml_Comp_60 : Cond.methodLink R_Comp 60 m_AL_remove.1 ∈ TBL := tb2 209 rfl
theorem ml_AL_118 : Cond.methodLink R_AL 118 m_Objs_checkIndex.1 ∈ TBL := tb2 213 rfl
theorem ml_Objs_105 : Cond.methodLink R_Objs 105 m_Prec_checkIndex.1 ∈ TBL := tb2 216 rfl
theorem ml_AL_144 : Cond.methodLink R_AL 144 m_AL_fastRemove.1 ∈ TBL := tb2 219 rfl
theorem ml_Comp_74 : Cond.methodLink R_Comp 74 m_Frac_copy.1 ∈ TBL := tb2 223 rfl
theorem ml_Frac_31 : Cond.methodLink R_Frac 31 m_Whole_copy.1 ∈ TBL := tb2 227 rfl
theorem ml_Law_80 : Cond.methodLink R_Law 80 m_Law_add.1 ∈ TBL := tb2 228 rfl
theorem cl_Law_21 : Cond.classLink R_Law 21 "java/lang/IndexOutOfBoundsException" ∈ TBL := tb2 231 rfl
theorem in_AiE : Cond.instantiable R_AiE 6 ∈ TBL := tb2 232 rfl
theorem ml_AiE_7 : Cond.methodLink R_AiE 7 m_IoE_initS.1 ∈ TBL := tb2 235 rfl
theorem ml_IoE_7 : Cond.methodLink R_IoE 7 m_RtE_initS.1 ∈ TBL := tb2 238 rfl
theorem ca_AiE_AiE : Cond.castable R_AiE R_AiE ∈ TBL := tb3 6 rfl
theorem ml_Law_17 : Cond.methodLink R_Law 17 m_Comp_add.1 ∈ TBL := tb3 10 rfl
theorem ml_Comp_100 : Cond.methodLink R_Comp 100 m_Comp_of.1 ∈ TBL := tb3 14 rfl
theorem ml_Comp_43 : Cond.methodLink R_Comp 43 m_Comp_there.1 ∈ TBL := tb3 18 rfl
theorem cl_Comp_36 : Cond.classLink R_Comp 36 "java/lang/IndexOutOfBoundsException" ∈ TBL := tb3 21 rfl
theorem in_IoE : Cond.instantiable R_IoE 6 ∈ TBL := tb3 22 rfl
theorem ca_IoE_IoE : Cond.castable R_IoE R_IoE ∈ TBL := tb3 23 rfl
theorem ml_Comp_38 : Cond.methodLink R_Comp 38 m_IoE_init.1 ∈ TBL := tb3 30 rfl
theorem ml_IoE_1 : Cond.methodLink R_IoE 1 m_RtE_init.1 ∈ TBL := tb3 33 rfl
theorem ml_Comp_47 : Cond.methodLink R_Comp 47 m_AL_get.1 ∈ TBL := tb3 36 rfl
theorem ml_AL_123 : Cond.methodLink R_AL 123 m_AL_elementData.1 ∈ TBL := tb3 40 rfl
theorem ml_Comp_108 : Cond.methodLink R_Comp 108 m_Comp_refusal.1 ∈ TBL := tb3 44 rfl
theorem ml_Comp_112 : Cond.methodLink R_Comp 112 m_Desk_add.1 ∈ TBL := tb3 48 rfl
theorem ml_Desk_72 : Cond.methodLink R_Desk 72 m_Whole_multiply.1 ∈ TBL := tb3 52 rfl
theorem ml_Desk_76 : Cond.methodLink R_Desk 76 m_Whole_add.1 ∈ TBL := tb3 56 rfl
theorem ml_Whole_33 : Cond.methodLink R_Whole 33 m_Math_max.1 ∈ TBL := tb3 60 rfl
theorem ml_Desk_79 : Cond.methodLink R_Desk 79 m_Whole_against.1 ∈ TBL := tb3 61 rfl
theorem ml_Desk_83 : Cond.methodLink R_Desk 83 m_Whole_take.1 ∈ TBL := tb3 62 rfl
theorem ml_Law_84 : Cond.methodLink R_Law 84 m_Law_times.1 ∈ TBL := tb3 66 rfl
theorem ml_Law_23 : Cond.methodLink R_Law 23 m_Comp_times.1 ∈ TBL := tb3 69 rfl
theorem ml_Comp_115 : Cond.methodLink R_Comp 115 m_Desk_times.1 ∈ TBL := tb3 73 rfl
theorem ml_Law_88 : Cond.methodLink R_Law 88 m_Law_over.1 ∈ TBL := tb3 77 rfl
theorem ml_Law_27 : Cond.methodLink R_Law 27 m_Comp_over.1 ∈ TBL := tb3 80 rfl
theorem ml_Comp_118 : Cond.methodLink R_Comp 118 m_Frac_sign.1 ∈ TBL := tb3 84 rfl
theorem ml_Frac_23 : Cond.methodLink R_Frac 23 m_Whole_isNothing.1 ∈ TBL := tb3 88 rfl
theorem ml_Comp_121 : Cond.methodLink R_Comp 121 m_Desk_over.1 ∈ TBL := tb3 89 rfl
theorem ml_Law_91 : Cond.methodLink R_Law 91 m_Law_order.1 ∈ TBL := tb3 93 rfl
theorem ml_Law_30 : Cond.methodLink R_Law 30 m_Comp_order.1 ∈ TBL := tb3 96 rfl
theorem ml_Comp_124 : Cond.methodLink R_Comp 124 m_Desk_against.1 ∈ TBL := tb3 100 rfl
theorem ml_Desk_89 : Cond.methodLink R_Desk 89 m_Frac_sign.1 ∈ TBL := tb3 104 rfl
theorem ml_Desk_93 : Cond.methodLink R_Desk 93 m_Int_compare.1 ∈ TBL := tb3 105 rfl
theorem ml_Law_94 : Cond.methodLink R_Law 94 m_Law_round.1 ∈ TBL := tb3 106 rfl
theorem ml_Law_33 : Cond.methodLink R_Law 33 m_Comp_round.1 ∈ TBL := tb3 109 rfl
theorem cn_Comp_128 : Cond.constant R_Comp 128 (1000000000) ∈ TBL := tb3 113 rfl
theorem ml_Comp_129 : Cond.methodLink R_Comp 129 m_Desk_round.1 ∈ TBL := tb3 114 rfl
theorem ml_Desk_86 : Cond.methodLink R_Desk 86 m_Whole_times.1 ∈ TBL := tb3 118 rfl
theorem ml_Desk_99 : Cond.methodLink R_Desk 99 m_Whole_isOdd.1 ∈ TBL := tb3 119 rfl
theorem ml_Law_98 : Cond.methodLink R_Law 98 m_Law_prism.1 ∈ TBL := tb3 123 rfl
theorem ml_Law_37 : Cond.methodLink R_Law 37 m_Comp_prism.1 ∈ TBL := tb3 126 rfl
theorem ml_Comp_132 : Cond.methodLink R_Comp 132 m_Desk_timesI.1 ∈ TBL := tb3 130 rfl
theorem ml_Comp_138 : Cond.methodLink R_Comp 138 m_Whole_times.1 ∈ TBL := tb3 134 rfl
theorem mn_Comp_141 : Cond.methodLinkNest R_Comp 141 m_Desk_reduce.1 "MetreFractions" ∈ TBL := tb3 135 rfl
theorem ml_Law_102 : Cond.methodLink R_Law 102 m_Law_told.1 ∈ TBL := tb3 136 rfl
theorem ml_Law_41 : Cond.methodLink R_Law 41 m_Comp_told.1 ∈ TBL := tb3 139 rfl
theorem ml_Comp_147 : Cond.methodLink R_Comp 147 m_Whole_digits.1 ∈ TBL := tb3 143 rfl
theorem ml_Law_105 : Cond.methodLink R_Law 105 m_Law_digit.1 ∈ TBL := tb3 147 rfl
theorem ml_Law_44 : Cond.methodLink R_Law 44 m_Comp_digit.1 ∈ TBL := tb3 150 rfl
theorem ml_Comp_150 : Cond.methodLink R_Comp 150 m_Math_min.1 ∈ TBL := tb3 154 rfl
theorem ml_Comp_156 : Cond.methodLink R_Comp 156 m_Whole_digit.1 ∈ TBL := tb3 155 rfl
theorem ml_Law_116 : Cond.methodLink R_Law 116 m_Law_corner.1 ∈ TBL := tb3 159 rfl
theorem ml_Law_47 : Cond.methodLink R_Law 47 m_Comp_corner.1 ∈ TBL := tb3 162 rfl
theorem ml_Comp_170 : Cond.methodLink R_Comp 170 m_Comp_rowOf.1 ∈ TBL := tb3 166 rfl
theorem ml_Comp_174 : Cond.methodLink R_Comp 174 m_Row_size.1 ∈ TBL := tb3 170 rfl
theorem ml_Row_19 : Cond.methodLink R_Row 19 m_AL_size.1 ∈ TBL := tb3 174 rfl
theorem ml_Comp_181 : Cond.methodLink R_Comp 181 m_Row_lastPlace.1 ∈ TBL := tb3 175 rfl
theorem ml_Row_23 : Cond.methodLink R_Row 23 m_Row_size.1 ∈ TBL := tb3 179 rfl
theorem ml_Row_24 : Cond.methodLink R_Row 24 m_AL_get.1 ∈ TBL := tb3 180 rfl
theorem cl_Row_28 : Cond.classLink R_Row 28 "MetreFractions$Fraction" ∈ TBL := tb3 181 rfl
theorem ml_Law_119 : Cond.methodLink R_Law 119 m_Law_at.1 ∈ TBL := tb3 182 rfl
theorem ml_Law_50 : Cond.methodLink R_Law 50 m_Comp_at.1 ∈ TBL := tb3 185 rfl
theorem ml_Comp_184 : Cond.methodLink R_Comp 184 m_Desk_line.1 ∈ TBL := tb3 189 rfl
theorem ml_Desk_102 : Cond.methodLink R_Desk 102 m_Frac_copy.1 ∈ TBL := tb3 193 rfl
theorem ml_Desk_105 : Cond.methodLink R_Desk 105 m_Desk_add.1 ∈ TBL := tb3 194 rfl
theorem ml_Desk_110 : Cond.methodLink R_Desk 110 m_Desk_over.1 ∈ TBL := tb3 195 rfl
theorem ml_Desk_108 : Cond.methodLink R_Desk 108 m_Desk_times.1 ∈ TBL := tb3 196 rfl
theorem ml_Law_122 : Cond.methodLink R_Law 122 m_Law_area.1 ∈ TBL := tb3 197 rfl
theorem ml_Law_53 : Cond.methodLink R_Law 53 m_Comp_area.1 ∈ TBL := tb3 200 rfl
theorem ml_Comp_188 : Cond.methodLink R_Comp 188 m_Desk_strip.1 ∈ TBL := tb3 204 rfl
theorem ml_Law_126 : Cond.methodLink R_Law 126 m_Law_weight.1 ∈ TBL := tb3 208 rfl
theorem ml_Law_57 : Cond.methodLink R_Law 57 m_Comp_weight.1 ∈ TBL := tb3 211 rfl
theorem ml_Law_133 : Cond.methodLink R_Law 133 m_Law_share.1 ∈ TBL := tb3 215 rfl
theorem ml_Law_60 : Cond.methodLink R_Law 60 m_Comp_share.1 ∈ TBL := tb3 218 rfl
theorem cn_Comp_195 : Cond.constantLong R_Comp 195 (1000000000000) ∈ TBL := tb3 222 rfl
theorem ml_Comp_197 : Cond.methodLink R_Comp 197 m_Comp_part.1 ∈ TBL := tb3 223 rfl
theorem cn_Comp_204 : Cond.constantLong R_Comp 204 (1000) ∈ TBL := tb3 226 rfl
theorem ml_Comp_201 : Cond.methodLink R_Comp 201 m_Comp_rest.1 ∈ TBL := tb3 227 rfl
theorem cl_Law_65 : Cond.classLink R_Law 65 "MetreFractionsModel" ∈ TBL := tb3 230 rfl
theorem in_Mdl : Cond.instantiable R_Mdl 22 ∈ TBL := tb3 231 rfl
theorem ml_Law_67 : Cond.methodLink R_Law 67 m_Mdl_init.1 ∈ TBL := tb3 232 rfl
theorem ml_Mdl_1 : Cond.methodLink R_Mdl 1 m_Obj_init.1 ∈ TBL := tb3 235 rfl
theorem cn_Mdl_16 : Cond.constant R_Mdl 16 (40400) ∈ TBL := tb3 236 rfl
theorem cn_Mdl_23 : Cond.constant R_Mdl 23 (38700) ∈ TBL := tb3 237 rfl
theorem ml_Law_76 : Cond.methodLink R_Law 76 m_Mdl_thrown.1 ∈ TBL := tb4 66 rfl
theorem ml_Law_75 : Cond.methodLink R_Law 75 m_Mdl_value.1 ∈ TBL := tb4 70 rfl
theorem ml_Mdl_129 : Cond.methodLink R_Mdl 129 m_Mdl_isUnit.1 ∈ TBL := tb4 74 rfl
theorem ml_Mdl_133 : Cond.methodLink R_Mdl 133 m_Mdl_setSize.1 ∈ TBL := tb4 77 rfl
theorem cn_Mdl_125 : Cond.constantLong R_Mdl 125 (-9223372036854775808) ∈ TBL := tb4 81 rfl
theorem cn_Mdl_127 : Cond.constantLong R_Mdl 127 (9223372036854775807) ∈ TBL := tb4 82 rfl
theorem ml_Mdl_78 : Cond.methodLink R_Mdl 78 m_Mdl_set.1 ∈ TBL := tb4 83 rfl
theorem cn_Mdl_56 : Cond.constantLong R_Mdl 56 (1000000000) ∈ TBL := tb4 87 rfl
theorem ml_Mdl_115 : Cond.methodLink R_Mdl 115 m_Mdl_reduce.1 ∈ TBL := tb4 88 rfl
theorem ml_Mdl_70 : Cond.methodLink R_Mdl 70 m_Mdl_copy.1 ∈ TBL := tb4 92 rfl
theorem ml_Mdl_97 : Cond.methodLink R_Mdl 97 m_Mdl_divide.1 ∈ TBL := tb4 96 rfl
theorem ml_Mdl_67 : Cond.methodLink R_Mdl 67 m_Mdl_compare.1 ∈ TBL := tb4 100 rfl
theorem ml_Mdl_74 : Cond.methodLink R_Mdl 74 m_Mdl_small.1 ∈ TBL := tb4 104 rfl
theorem ml_Mdl_63 : Cond.methodLink R_Mdl 63 m_Mdl_trim.1 ∈ TBL := tb4 108 rfl
theorem cn_Mdl_62 : Cond.constant R_Mdl 62 (1000000000) ∈ TBL := tb4 112 rfl
theorem ml_Mdl_82 : Cond.methodLink R_Mdl 82 m_Mdl_scale.1 ∈ TBL := tb4 113 rfl
theorem ml_Mdl_85 : Cond.methodLink R_Mdl 85 m_Mdl_takeOff.1 ∈ TBL := tb4 117 rfl
theorem ml_Mdl_89 : Cond.methodLink R_Mdl 89 m_Mdl_putOn.1 ∈ TBL := tb4 121 rfl
theorem cn_Mdl_93 : Cond.constant R_Mdl 93 (34400) ∈ TBL := tb4 125 rfl
theorem ml_Mdl_136 : Cond.methodLink R_Mdl 136 m_Mdl_keep.1 ∈ TBL := tb4 126 rfl
theorem ml_Mdl_118 : Cond.methodLink R_Mdl 118 m_Mdl_digits.1 ∈ TBL := tb4 130 rfl
theorem ml_Law_83 : Cond.methodLink R_Law 83 m_Mdl_add.1 ∈ TBL := tb4 134 rfl
theorem ml_Mdl_139 : Cond.methodLink R_Mdl 139 m_Mdl_isValue.1 ∈ TBL := tb4 138 rfl
theorem ml_Mdl_142 : Cond.methodLink R_Mdl 142 m_Mdl_load.1 ∈ TBL := tb4 142 rfl
theorem ml_Mdl_100 : Cond.methodLink R_Mdl 100 m_Mdl_take.1 ∈ TBL := tb4 146 rfl
theorem ml_Mdl_145 : Cond.methodLink R_Mdl 145 m_Mdl_loadOther.1 ∈ TBL := tb4 150 rfl
theorem ml_Mdl_148 : Cond.methodLink R_Mdl 148 m_Mdl_addOther.1 ∈ TBL := tb4 154 rfl
theorem ml_Mdl_106 : Cond.methodLink R_Mdl 106 m_Mdl_multiply.1 ∈ TBL := tb4 158 rfl
theorem ml_Mdl_109 : Cond.methodLink R_Mdl 109 m_Mdl_plus.1 ∈ TBL := tb4 162 rfl
theorem ml_Mdl_58 : Cond.methodLink R_Mdl 58 m_Mdl_limb.1 ∈ TBL := tb4 166 rfl
theorem ml_Mdl_112 : Cond.methodLink R_Mdl 112 m_Mdl_subtract.1 ∈ TBL := tb4 170 rfl
theorem ml_Law_87 : Cond.methodLink R_Law 87 m_Mdl_times.1 ∈ TBL := tb4 174 rfl
theorem ml_Mdl_151 : Cond.methodLink R_Mdl 151 m_Mdl_timesOther.1 ∈ TBL := tb4 178 rfl
theorem ml_Law_90 : Cond.methodLink R_Law 90 m_Mdl_over.1 ∈ TBL := tb4 182 rfl
theorem ml_Mdl_154 : Cond.methodLink R_Mdl 154 m_Mdl_overOther.1 ∈ TBL := tb4 186 rfl
theorem ml_Law_93 : Cond.methodLink R_Law 93 m_Mdl_order.1 ∈ TBL := tb4 190 rfl
theorem ml_Mdl_157 : Cond.methodLink R_Mdl 157 m_Mdl_compareValues.1 ∈ TBL := tb4 194 rfl
theorem ml_Law_97 : Cond.methodLink R_Law 97 m_Mdl_round.1 ∈ TBL := tb4 198 rfl
theorem cn_Mdl_160 : Cond.constantLong R_Mdl 160 (2) ∈ TBL := tb4 202 rfl
theorem ml_Law_101 : Cond.methodLink R_Law 101 m_Mdl_prism.1 ∈ TBL := tb4 203 rfl
theorem cn_Mdl_162 : Cond.constantLong R_Mdl 162 (4) ∈ TBL := tb4 207 rfl
theorem cn_Mdl_164 : Cond.constantLong R_Mdl 164 (6) ∈ TBL := tb4 208 rfl
theorem ml_Law_104 : Cond.methodLink R_Law 104 m_Mdl_told.1 ∈ TBL := tb4 209 rfl
theorem ml_Law_107 : Cond.methodLink R_Law 107 m_Mdl_digit.1 ∈ TBL := tb4 213 rfl
theorem ml_Law_111 : Cond.methodLink R_Law 111 m_Mdl_clear.1 ∈ TBL := tb4 217 rfl
theorem ml_Law_115 : Cond.methodLink R_Law 115 m_Mdl_row.1 ∈ TBL := tb4 221 rfl
theorem ml_Law_118 : Cond.methodLink R_Law 118 m_Mdl_corner.1 ∈ TBL := tb4 225 rfl
theorem ml_Mdl_169 : Cond.methodLink R_Mdl 169 m_Mdl_isRow.1 ∈ TBL := tb4 229 rfl
theorem ml_Law_121 : Cond.methodLink R_Law 121 m_Mdl_at.1 ∈ TBL := tb4 233 rfl
theorem ml_Mdl_172 : Cond.methodLink R_Mdl 172 m_Mdl_stash.1 ∈ TBL := tb4 237 rfl
theorem ml_Mdl_175 : Cond.methodLink R_Mdl 175 m_Mdl_unstash.1 ∈ TBL := tb5 1 rfl
theorem ml_Mdl_178 : Cond.methodLink R_Mdl 178 m_Mdl_exchange.1 ∈ TBL := tb5 5 rfl
theorem ml_Law_125 : Cond.methodLink R_Law 125 m_Mdl_area.1 ∈ TBL := tb5 9 rfl
theorem ml_Mdl_190 : Cond.methodLink R_Mdl 190 m_Mdl_addHalf.1 ∈ TBL := tb5 13 rfl
theorem ml_Law_128 : Cond.methodLink R_Law 128 m_Mdl_weight.1 ∈ TBL := tb5 17 rfl
theorem ml_Law_132 : Cond.methodLink R_Law 132 m_Mdl_noWeights.1 ∈ TBL := tb5 21 rfl
theorem ml_Law_136 : Cond.methodLink R_Law 136 m_Mdl_share.1 ∈ TBL := tb5 25 rfl
theorem cn_Mdl_196 : Cond.constantLong R_Mdl 196 (1000000000000) ∈ TBL := tb5 29 rfl
theorem cn_Mdl_198 : Cond.constantLong R_Mdl 198 (100000) ∈ TBL := tb5 30 rfl
theorem cn_Mdl_200 : Cond.constantLong R_Mdl 200 (-1) ∈ TBL := tb5 31 rfl
theorem cn_Law_68 : Cond.constantLong R_Law 68 (4294967295) ∈ TBL := tb5 32 rfl
theorem ca_AiE_IoE : Cond.castable R_AiE R_IoE ∈ TBL := tb5 34 rfl
theorem ca_Frac_Frac : Cond.castable R_Frac R_Frac ∈ TBL := tb5 35 rfl
theorem ca_Row_Row : Cond.castable R_Row R_Row ∈ TBL := tb5 36 rfl
theorem ca_Comp_Obj : Cond.castable R_Comp R_Obj ∈ TBL := tb5 40 rfl
theorem ca_Desk_Obj : Cond.castable R_Desk R_Obj ∈ TBL := tb5 41 rfl
theorem ca_Frac_Obj : Cond.castable R_Frac R_Obj ∈ TBL := tb5 42 rfl
theorem ca_Whole_Obj : Cond.castable R_Whole R_Obj ∈ TBL := tb5 43 rfl
theorem ca_Mdl_Obj : Cond.castable R_Mdl R_Obj ∈ TBL := tb5 44 rfl
theorem ca_Row_Obj : Cond.castable R_Row R_Obj ∈ TBL := tb5 45 rfl
/-- a field as a class's code names it -/
def FB (own : String) (idx ci k : Nat) (ty : FieldType) (fin : Bool) : Prop := ∃ (C : String) (T : u_T) (N : Nat) (t0 : Nat → FieldType) (ref : String), CK ci C T N t0 ∧ k < N ∧ t0 k = ty ∧ (T k).2.2.2 = fin ∧ (fin = true → (T k).1 = C) ∧ Cond.fieldLink own idx ref (T k).2.1 (T k).2.2.1 ∈ TBL ∧ (ref = (T k).1 ∨ Cond.sameField ref (T k).1 (T k).2.1 (T k).2.2.1 ∈ TBL)
theorem fb_AL_9 : FB R_AL 9 6 0 (.array (.object "java/lang/Object")) false := ⟨R_AL, F_AL, 3, t_AL, "java/util/ArrayList", ck_AL, by decide, rfl, rfl, (fun h => by cases h), tb1 47 rfl, Or.inl rfl⟩
theorem fb_AL_48 : FB R_AL 48 6 1 .int false := ⟨R_AL, F_AL, 3, t_AL, "java/util/ArrayList", ck_AL, by decide, rfl, rfl, (fun h => by cases h), tb1 48 rfl, Or.inl rfl⟩
theorem fb_ABL_7 : FB R_ABL 7 6 2 .int false := ⟨R_AL, F_AL, 3, t_AL, "java/util/AbstractList", ck_AL, by decide, rfl, rfl, (fun h => by cases h), tb1 49 rfl, Or.inl rfl⟩
theorem fb_AL_63 : FB R_AL 63 6 2 .int false := ⟨R_AL, F_AL, 3, t_AL, "java/util/ArrayList", ck_AL, by decide, rfl, rfl, (fun h => by cases h), tb1 50 rfl, Or.inr (tb1 51 rfl)⟩
theorem fb_Whole_9 : FB R_Whole 9 0 0 (.array .int) true := ⟨R_Whole, F_Whole, 2, t_Whole, "MetreFractions$Whole", ck_Whole, by decide, rfl, rfl, fun _ => rfl, tb1 77 rfl, Or.inl rfl⟩
theorem fb_Whole_15 : FB R_Whole 15 0 1 .int false := ⟨R_Whole, F_Whole, 2, t_Whole, "MetreFractions$Whole", ck_Whole, by decide, rfl, rfl, (fun h => by cases h), tb1 78 rfl, Or.inl rfl⟩
theorem fb_Frac_14 : FB R_Frac 14 1 0 (.object "MetreFractions$Whole") true := ⟨R_Frac, F_Frac, 4, t_Frac, "MetreFractions$Fraction", ck_Frac, by decide, rfl, rfl, fun _ => rfl, tb1 86 rfl, Or.inl rfl⟩
theorem fb_Desk_39 : FB R_Desk 39 1 0 (.object "MetreFractions$Whole") true := ⟨R_Frac, F_Frac, 4, t_Frac, "MetreFractions$Fraction", ck_Frac, by decide, rfl, rfl, fun _ => rfl, tb1 87 rfl, Or.inl rfl⟩
theorem fb_Comp_144 : FB R_Comp 144 1 0 (.object "MetreFractions$Whole") true := ⟨R_Frac, F_Frac, 4, t_Frac, "MetreFractions$Fraction", ck_Frac, by decide, rfl, rfl, fun _ => rfl, tb1 88 rfl, Or.inl rfl⟩
theorem fb_Frac_20 : FB R_Frac 20 1 1 (.object "MetreFractions$Whole") true := ⟨R_Frac, F_Frac, 4, t_Frac, "MetreFractions$Fraction", ck_Frac, by decide, rfl, rfl, fun _ => rfl, tb1 89 rfl, Or.inl rfl⟩
theorem fb_Desk_46 : FB R_Desk 46 1 1 (.object "MetreFractions$Whole") true := ⟨R_Frac, F_Frac, 4, t_Frac, "MetreFractions$Fraction", ck_Frac, by decide, rfl, rfl, fun _ => rfl, tb1 90 rfl, Or.inl rfl⟩
theorem fb_Comp_134 : FB R_Comp 134 1 1 (.object "MetreFractions$Whole") true := ⟨R_Frac, F_Frac, 4, t_Frac, "MetreFractions$Fraction", ck_Frac, by decide, rfl, rfl, fun _ => rfl, tb1 91 rfl, Or.inl rfl⟩
theorem fb_Frac_27 : FB R_Frac 27 1 2 .boolean false := ⟨R_Frac, F_Frac, 4, t_Frac, "MetreFractions$Fraction", ck_Frac, by decide, rfl, rfl, (fun h => by cases h), tb1 92 rfl, Or.inl rfl⟩
theorem fb_Desk_49 : FB R_Desk 49 1 2 .boolean false := ⟨R_Frac, F_Frac, 4, t_Frac, "MetreFractions$Fraction", ck_Frac, by decide, rfl, rfl, (fun h => by cases h), tb1 93 rfl, Or.inl rfl⟩
theorem fb_Desk_53 : FB R_Desk 53 1 3 .int false := ⟨R_Frac, F_Frac, 4, t_Frac, "MetreFractions$Fraction", ck_Frac, by decide, rfl, rfl, (fun h => by cases h), tb1 94 rfl, Or.inl rfl⟩
theorem fb_Frac_35 : FB R_Frac 35 1 3 .int false := ⟨R_Frac, F_Frac, 4, t_Frac, "MetreFractions$Fraction", ck_Frac, by decide, rfl, rfl, (fun h => by cases h), tb1 95 rfl, Or.inl rfl⟩
theorem fb_Comp_104 : FB R_Comp 104 1 3 .int false := ⟨R_Frac, F_Frac, 4, t_Frac, "MetreFractions$Fraction", ck_Frac, by decide, rfl, rfl, (fun h => by cases h), tb1 96 rfl, Or.inl rfl⟩
theorem fb_Desk_14 : FB R_Desk 14 2 0 (.object "MetreFractions$Fraction") true := ⟨R_Desk, F_Desk, 6, t_Desk, "MetreFractions$Desk", ck_Desk, by decide, rfl, rfl, fun _ => rfl, tb1 108 rfl, Or.inl rfl⟩
theorem fb_Comp_63 : FB R_Comp 63 2 0 (.object "MetreFractions$Fraction") true := ⟨R_Desk, F_Desk, 6, t_Desk, "MetreFractions$Desk", ck_Desk, by decide, rfl, rfl, fun _ => rfl, tb1 109 rfl, Or.inl rfl⟩
theorem fb_Desk_23 : FB R_Desk 23 2 1 (.object "MetreFractions$Whole") true := ⟨R_Desk, F_Desk, 6, t_Desk, "MetreFractions$Desk", ck_Desk, by decide, rfl, rfl, fun _ => rfl, tb1 110 rfl, Or.inl rfl⟩
theorem fb_Desk_27 : FB R_Desk 27 2 2 (.object "MetreFractions$Whole") true := ⟨R_Desk, F_Desk, 6, t_Desk, "MetreFractions$Desk", ck_Desk, by decide, rfl, rfl, fun _ => rfl, tb1 111 rfl, Or.inl rfl⟩
theorem fb_Desk_30 : FB R_Desk 30 2 3 (.object "MetreFractions$Whole") true := ⟨R_Desk, F_Desk, 6, t_Desk, "MetreFractions$Desk", ck_Desk, by decide, rfl, rfl, fun _ => rfl, tb1 112 rfl, Or.inl rfl⟩
theorem fb_Desk_33 : FB R_Desk 33 2 4 (.object "MetreFractions$Whole") true := ⟨R_Desk, F_Desk, 6, t_Desk, "MetreFractions$Desk", ck_Desk, by decide, rfl, rfl, fun _ => rfl, tb1 113 rfl, Or.inl rfl⟩
theorem fb_Desk_36 : FB R_Desk 36 2 5 (.object "MetreFractions$Fraction") true := ⟨R_Desk, F_Desk, 6, t_Desk, "MetreFractions$Desk", ck_Desk, by decide, rfl, rfl, fun _ => rfl, tb1 114 rfl, Or.inl rfl⟩
theorem fb_Comp_10 : FB R_Comp 10 4 0 (.object "java/util/ArrayList") true := ⟨R_Comp, F_Comp, 6, t_Comp, "MetreFractions", ck_Comp, by decide, rfl, rfl, fun _ => rfl, tb1 128 rfl, Or.inl rfl⟩
theorem fb_Comp_16 : FB R_Comp 16 4 1 (.object "java/util/ArrayList") true := ⟨R_Comp, F_Comp, 6, t_Comp, "MetreFractions", ck_Comp, by decide, rfl, rfl, fun _ => rfl, tb1 129 rfl, Or.inl rfl⟩
theorem fb_Comp_19 : FB R_Comp 19 4 2 (.object "java/util/ArrayList") true := ⟨R_Comp, F_Comp, 6, t_Comp, "MetreFractions", ck_Comp, by decide, rfl, rfl, fun _ => rfl, tb1 130 rfl, Or.inl rfl⟩
theorem fb_Comp_22 : FB R_Comp 22 4 3 (.array .int) true := ⟨R_Comp, F_Comp, 6, t_Comp, "MetreFractions", ck_Comp, by decide, rfl, rfl, fun _ => rfl, tb1 131 rfl, Or.inl rfl⟩
theorem fb_Comp_192 : FB R_Comp 192 4 4 .int false := ⟨R_Comp, F_Comp, 6, t_Comp, "MetreFractions", ck_Comp, by decide, rfl, rfl, (fun h => by cases h), tb1 132 rfl, Or.inl rfl⟩
theorem fb_Comp_29 : FB R_Comp 29 4 5 (.object "MetreFractions$Desk") true := ⟨R_Comp, F_Comp, 6, t_Comp, "MetreFractions", ck_Comp, by decide, rfl, rfl, fun _ => rfl, tb1 133 rfl, Or.inl rfl⟩
theorem fb_Row_10 : FB R_Row 10 3 0 (.object "java/util/ArrayList") true := ⟨R_Row, F_Row, 2, t_Row, "MetreFractions$Row", ck_Row, by decide, rfl, rfl, fun _ => rfl, tb1 232 rfl, Or.inl rfl⟩
theorem fb_Comp_175 : FB R_Comp 175 3 0 (.object "java/util/ArrayList") true := ⟨R_Row, F_Row, 2, t_Row, "MetreFractions$Row", ck_Row, by decide, rfl, rfl, fun _ => rfl, tb1 233 rfl, Or.inl rfl⟩
theorem fb_Row_16 : FB R_Row 16 3 1 (.object "java/util/ArrayList") true := ⟨R_Row, F_Row, 2, t_Row, "MetreFractions$Row", ck_Row, by decide, rfl, rfl, fun _ => rfl, tb1 234 rfl, Or.inl rfl⟩
theorem fb_Comp_178 : FB R_Comp 178 3 1 (.object "java/util/ArrayList") true := ⟨R_Row, F_Row, 2, t_Row, "MetreFractions$Row", ck_Row, by decide, rfl, rfl, fun _ => rfl, tb1 235 rfl, Or.inl rfl⟩
theorem fb_Mdl_52 : FB R_Mdl 52 5 0 .int false := ⟨R_Mdl, F_Mdl, 22, t_Mdl, "MetreFractionsModel", ck_Mdl, by decide, rfl, rfl, (fun h => by cases h), tb3 238 rfl, Or.inl rfl⟩
theorem fb_Mdl_122 : FB R_Mdl 122 5 1 .int false := ⟨R_Mdl, F_Mdl, 22, t_Mdl, "MetreFractionsModel", ck_Mdl, by decide, rfl, rfl, (fun h => by cases h), tb3 239 rfl, Or.inl rfl⟩
theorem fb_Mdl_7 : FB R_Mdl 7 5 9 (.array .int) true := ⟨R_Mdl, F_Mdl, 22, t_Mdl, "MetreFractionsModel", ck_Mdl, by decide, rfl, rfl, fun _ => rfl, tb4 0 rfl, Or.inl rfl⟩
theorem fb_Mdl_13 : FB R_Mdl 13 5 10 (.array .int) true := ⟨R_Mdl, F_Mdl, 22, t_Mdl, "MetreFractionsModel", ck_Mdl, by decide, rfl, rfl, fun _ => rfl, tb4 1 rfl, Or.inl rfl⟩
theorem fb_Mdl_17 : FB R_Mdl 17 5 11 (.array .int) true := ⟨R_Mdl, F_Mdl, 22, t_Mdl, "MetreFractionsModel", ck_Mdl, by decide, rfl, rfl, fun _ => rfl, tb4 2 rfl, Or.inl rfl⟩
theorem fb_Mdl_20 : FB R_Mdl 20 5 12 (.array .int) true := ⟨R_Mdl, F_Mdl, 22, t_Mdl, "MetreFractionsModel", ck_Mdl, by decide, rfl, rfl, fun _ => rfl, tb4 3 rfl, Or.inl rfl⟩
theorem fb_Mdl_94 : FB R_Mdl 94 5 2 .int false := ⟨R_Mdl, F_Mdl, 22, t_Mdl, "MetreFractionsModel", ck_Mdl, by decide, rfl, rfl, (fun h => by cases h), tb4 4 rfl, Or.inl rfl⟩
theorem fb_Mdl_103 : FB R_Mdl 103 5 3 .int false := ⟨R_Mdl, F_Mdl, 22, t_Mdl, "MetreFractionsModel", ck_Mdl, by decide, rfl, rfl, (fun h => by cases h), tb4 5 rfl, Or.inl rfl⟩
theorem fb_Mdl_24 : FB R_Mdl 24 5 13 (.array .int) true := ⟨R_Mdl, F_Mdl, 22, t_Mdl, "MetreFractionsModel", ck_Mdl, by decide, rfl, rfl, fun _ => rfl, tb4 6 rfl, Or.inl rfl⟩
theorem fb_Mdl_27 : FB R_Mdl 27 5 14 (.array .int) true := ⟨R_Mdl, F_Mdl, 22, t_Mdl, "MetreFractionsModel", ck_Mdl, by decide, rfl, rfl, fun _ => rfl, tb4 7 rfl, Or.inl rfl⟩
theorem fb_Mdl_166 : FB R_Mdl 166 5 4 .int false := ⟨R_Mdl, F_Mdl, 22, t_Mdl, "MetreFractionsModel", ck_Mdl, by decide, rfl, rfl, (fun h => by cases h), tb4 8 rfl, Or.inl rfl⟩
theorem fb_Mdl_30 : FB R_Mdl 30 5 15 (.array .int) true := ⟨R_Mdl, F_Mdl, 22, t_Mdl, "MetreFractionsModel", ck_Mdl, by decide, rfl, rfl, fun _ => rfl, tb4 9 rfl, Or.inl rfl⟩
theorem fb_Mdl_33 : FB R_Mdl 33 5 16 (.array .int) true := ⟨R_Mdl, F_Mdl, 22, t_Mdl, "MetreFractionsModel", ck_Mdl, by decide, rfl, rfl, fun _ => rfl, tb4 10 rfl, Or.inl rfl⟩
theorem fb_Mdl_36 : FB R_Mdl 36 5 17 (.array .int) true := ⟨R_Mdl, F_Mdl, 22, t_Mdl, "MetreFractionsModel", ck_Mdl, by decide, rfl, rfl, fun _ => rfl, tb4 11 rfl, Or.inl rfl⟩
theorem fb_Mdl_193 : FB R_Mdl 193 5 5 .int false := ⟨R_Mdl, F_Mdl, 22, t_Mdl, "MetreFractionsModel", ck_Mdl, by decide, rfl, rfl, (fun h => by cases h), tb4 12 rfl, Or.inl rfl⟩
theorem fb_Mdl_39 : FB R_Mdl 39 5 18 (.array .long) true := ⟨R_Mdl, F_Mdl, 22, t_Mdl, "MetreFractionsModel", ck_Mdl, by decide, rfl, rfl, fun _ => rfl, tb4 13 rfl, Or.inl rfl⟩
theorem fb_Mdl_43 : FB R_Mdl 43 5 19 (.array .long) true := ⟨R_Mdl, F_Mdl, 22, t_Mdl, "MetreFractionsModel", ck_Mdl, by decide, rfl, rfl, fun _ => rfl, tb4 14 rfl, Or.inl rfl⟩
theorem fb_Mdl_46 : FB R_Mdl 46 5 20 (.array .long) true := ⟨R_Mdl, F_Mdl, 22, t_Mdl, "MetreFractionsModel", ck_Mdl, by decide, rfl, rfl, fun _ => rfl, tb4 15 rfl, Or.inl rfl⟩
theorem fb_Mdl_49 : FB R_Mdl 49 5 21 (.array .int) true := ⟨R_Mdl, F_Mdl, 22, t_Mdl, "MetreFractionsModel", ck_Mdl, by decide, rfl, rfl, fun _ => rfl, tb4 16 rfl, Or.inl rfl⟩
theorem fb_Mdl_181 : FB R_Mdl 181 5 6 .int false := ⟨R_Mdl, F_Mdl, 22, t_Mdl, "MetreFractionsModel", ck_Mdl, by decide, rfl, rfl, (fun h => by cases h), tb4 17 rfl, Or.inl rfl⟩
theorem fb_Mdl_184 : FB R_Mdl 184 5 7 .int false := ⟨R_Mdl, F_Mdl, 22, t_Mdl, "MetreFractionsModel", ck_Mdl, by decide, rfl, rfl, (fun h => by cases h), tb4 18 rfl, Or.inl rfl⟩
theorem fb_Mdl_187 : FB R_Mdl 187 5 8 .int false := ⟨R_Mdl, F_Mdl, 22, t_Mdl, "MetreFractionsModel", ck_Mdl, by decide, rfl, rfl, (fun h => by cases h), tb4 19 rfl, Or.inl rfl⟩
