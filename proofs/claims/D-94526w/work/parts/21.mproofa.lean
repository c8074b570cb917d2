set_option maxRecDepth 100000
theorem gJ12_bitCount {K : gK} {M : XS} {S : Option MS}  {a0 : Int32} {o : Int32} (hf : fJ12_bitCount a0 = some o) : gMet K yJ12_bitCount cJ12_bitCount 1 (some Jvm.ClassFile.FieldType.int) rJ12_bitCount [(.int a0)] M S (some (.int o)) M S := by
  refine gMet.of pn_J12 (Nat.le_of_ble_eq_true rfl) fun X C E => ?_
  unfold fJ12_bitCount at hf
  show GG K X 1 0 0 M S 0 [(0, .int a0)] []
  refine GG.iload_n C dJ12_bitCount_0 0 rfl ?_
  refine GG.iload_n C dJ12_bitCount_1 0 rfl ?_
  refine GG.iconst C dJ12_bitCount_2 ic_1 ?_
  refine GG.iushr C dJ12_bitCount_3 ?_
  refine GG.ldcw C (v := (nI 1431655765)) q1092 dJ12_bitCount_4 ?_
  refine GG.iand C dJ12_bitCount_7 ?_
  refine GG.isub C dJ12_bitCount_8 ?_
  refine GG.topi fun x1 hx1 => ?_
  have hf := ltb_s hx1 hf
  refine GG.istore_n C (lv' := [(0, .int x1)]) dJ12_bitCount_9 (by decide) rfl ?_
  refine GG.iload_n C dJ12_bitCount_10 0 rfl ?_
  refine GG.ldcw C (v := (nI 858993459)) q1093 dJ12_bitCount_11 ?_
  refine GG.iand C dJ12_bitCount_14 ?_
  refine GG.iload_n C dJ12_bitCount_15 0 rfl ?_
  refine GG.iconst C dJ12_bitCount_16 ic_2 ?_
  refine GG.iushr C dJ12_bitCount_17 ?_
  refine GG.ldcw C (v := (nI 858993459)) q1093 dJ12_bitCount_18 ?_
  refine GG.iand C dJ12_bitCount_21 ?_
  refine GG.iadd C dJ12_bitCount_22 ?_
  refine GG.topi fun x2 hx2 => ?_
  have hf := ltb_s hx2 hf
  refine GG.istore_n C (lv' := [(0, .int x2)]) dJ12_bitCount_23 (by decide) rfl ?_
  refine GG.iload_n C dJ12_bitCount_24 0 rfl ?_
  refine GG.iload_n C dJ12_bitCount_25 0 rfl ?_
  refine GG.iconst C dJ12_bitCount_26 ic_4 ?_
  refine GG.iushr C dJ12_bitCount_27 ?_
  refine GG.iadd C dJ12_bitCount_28 ?_
  refine GG.ldcw C (v := (nI 252645135)) q1094 dJ12_bitCount_29 ?_
  refine GG.iand C dJ12_bitCount_32 ?_
  refine GG.topi fun x3 hx3 => ?_
  have hf := ltb_s hx3 hf
  refine GG.istore_n C (lv' := [(0, .int x3)]) dJ12_bitCount_33 (by decide) rfl ?_
  refine GG.iload_n C dJ12_bitCount_34 0 rfl ?_
  refine GG.iload_n C dJ12_bitCount_35 0 rfl ?_
  refine GG.bipush C dJ12_bitCount_36 bp_8 ?_
  refine GG.iushr C dJ12_bitCount_38 ?_
  refine GG.iadd C dJ12_bitCount_39 ?_
  refine GG.topi fun x4 hx4 => ?_
  have hf := ltb_s hx4 hf
  refine GG.istore_n C (lv' := [(0, .int x4)]) dJ12_bitCount_40 (by decide) rfl ?_
  refine GG.iload_n C dJ12_bitCount_41 0 rfl ?_
  refine GG.iload_n C dJ12_bitCount_42 0 rfl ?_
  refine GG.bipush C dJ12_bitCount_43 bp_16 ?_
  refine GG.iushr C dJ12_bitCount_45 ?_
  refine GG.iadd C dJ12_bitCount_46 ?_
  refine GG.topi fun x5 hx5 => ?_
  have hf := ltb_s hx5 hf
  refine GG.istore_n C (lv' := [(0, .int x5)]) dJ12_bitCount_47 (by decide) rfl ?_
  refine GG.iload_n C dJ12_bitCount_48 0 rfl ?_
  refine GG.bipush C dJ12_bitCount_49 bp_63 ?_
  refine GG.iand C dJ12_bitCount_51 ?_
  have hf := Option.some.inj hf
  subst hf
  exact GG.iret C E dJ12_bitCount_52
theorem gJ12_numberOfTrailingZeros_62 {K : gK} {X : gX} {M : XS} {S : Option MS} (C : gC K X cJ12_numberOfTrailingZeros 2 yJ12_numberOfTrailingZeros (some Jvm.ClassFile.FieldType.int) rJ12_numberOfTrailingZeros)  {o : Int32} (E : gE K X (some (.int o)) M S rJ12_numberOfTrailingZeros.cells rJ12_numberOfTrailingZeros.slots)   :
    ∀ (a0 : Int32) (a1 : Int32), fJ12_numberOfTrailingZeros_62  a0 a1 = some o → GG K X 2 0 0 M S 62 [(0, .int a0), (1, .int a1)] [] := by
  intro a0 a1 hf
  unfold fJ12_numberOfTrailingZeros_62 at hf
  refine GG.iload_n C dJ12_numberOfTrailingZeros_62 0 rfl ?_
  refine GG.iconst C dJ12_numberOfTrailingZeros_63 ic_4 ?_
  refine GG.icmp_le C (tgt := 74) dJ12_numberOfTrailingZeros_64 (by decide) (fun c11 => ?_) (fun c11 => ?_)
  · have hf := if_t hf c11
    refine GG.iload_n C dJ12_numberOfTrailingZeros_74 1 rfl ?_
    refine GG.iload_n C dJ12_numberOfTrailingZeros_75 0 rfl ?_
    refine GG.iconst C dJ12_numberOfTrailingZeros_76 ic_1 ?_
    refine GG.iushr C dJ12_numberOfTrailingZeros_77 ?_
    refine GG.iadd C dJ12_numberOfTrailingZeros_78 ?_
    have hf := Option.some.inj hf
    subst hf
    exact GG.iret C E dJ12_numberOfTrailingZeros_79
  · have hf := if_f hf c11
    refine GG.iinc C (v := (a1 + (nI 2))) (lv' := [(1, .int (a1 + (nI 2))), (0, .int a0)]) dJ12_numberOfTrailingZeros_67 1 rfl (congrArg (a1 + ·) ic_2) (by decide) rfl ?_
    refine GG.iload_n C dJ12_numberOfTrailingZeros_70 1 rfl ?_
    refine GG.iconst C dJ12_numberOfTrailingZeros_71 ic_2 ?_
    refine GG.iushr C dJ12_numberOfTrailingZeros_72 ?_
    refine GG.topi fun x12 hx12 => ?_
    have hf := ltb_s hx12 hf
    refine GG.istore_n C (lv' := [(0, .int x12), (1, .int (a1 + (nI 2)))]) dJ12_numberOfTrailingZeros_73 (by decide) rfl ?_
    refine GG.iload_n C dJ12_numberOfTrailingZeros_74 1 rfl ?_
    refine GG.iload_n C dJ12_numberOfTrailingZeros_75 0 rfl ?_
    refine GG.iconst C dJ12_numberOfTrailingZeros_76 ic_1 ?_
    refine GG.iushr C dJ12_numberOfTrailingZeros_77 ?_
    refine GG.iadd C dJ12_numberOfTrailingZeros_78 ?_
    have hf := Option.some.inj hf
    subst hf
    exact GG.iret C E dJ12_numberOfTrailingZeros_79
theorem gJ12_numberOfTrailingZeros_34 {K : gK} {X : gX} {M : XS} {S : Option MS} (C : gC K X cJ12_numberOfTrailingZeros 2 yJ12_numberOfTrailingZeros (some Jvm.ClassFile.FieldType.int) rJ12_numberOfTrailingZeros)  {o : Int32} (E : gE K X (some (.int o)) M S rJ12_numberOfTrailingZeros.cells rJ12_numberOfTrailingZeros.slots)   :
    ∀ (a0 : Int32) (a1 : Int32), fJ12_numberOfTrailingZeros_34  a0 a1 = some o → GG K X 2 0 0 M S 34 [(0, .int a0), (1, .int a1)] [] := by
  intro a0 a1 hf
  unfold fJ12_numberOfTrailingZeros_34 at hf
  refine GG.iload_n C dJ12_numberOfTrailingZeros_34 0 rfl ?_
  refine GG.sipush C dJ12_numberOfTrailingZeros_35 sp_256 ?_
  refine GG.icmp_le C (tgt := 49) dJ12_numberOfTrailingZeros_38 (by decide) (fun c5 => ?_) (fun c5 => ?_)
  · have hf := if_t hf c5
    refine GG.iload_n C dJ12_numberOfTrailingZeros_49 0 rfl ?_
    refine GG.bipush C dJ12_numberOfTrailingZeros_50 bp_16 ?_
    refine GG.icmp_le C (tgt := 62) dJ12_numberOfTrailingZeros_52 (by decide) (fun c6 => ?_) (fun c6 => ?_)
    · have hf := if_t hf c6
      refine GG.sub [0, 1] rfl ?_
      exact gJ12_numberOfTrailingZeros_62 C E  _ _ hf
    · have hf := if_f hf c6
      refine GG.iinc C (v := (a1 + (nI 4))) (lv' := [(1, .int (a1 + (nI 4))), (0, .int a0)]) dJ12_numberOfTrailingZeros_55 1 rfl (congrArg (a1 + ·) ic_4) (by decide) rfl ?_
      refine GG.iload_n C dJ12_numberOfTrailingZeros_58 1 rfl ?_
      refine GG.iconst C dJ12_numberOfTrailingZeros_59 ic_4 ?_
      refine GG.iushr C dJ12_numberOfTrailingZeros_60 ?_
      refine GG.topi fun x7 hx7 => ?_
      have hf := ltb_s hx7 hf
      refine GG.istore_n C (lv' := [(0, .int x7), (1, .int (a1 + (nI 4)))]) dJ12_numberOfTrailingZeros_61 (by decide) rfl ?_
      refine GG.sub [0, 1] rfl ?_
      exact gJ12_numberOfTrailingZeros_62 C E  _ _ hf
  · have hf := if_f hf c5
    refine GG.iinc C (v := (a1 + (nI 8))) (lv' := [(1, .int (a1 + (nI 8))), (0, .int a0)]) dJ12_numberOfTrailingZeros_41 1 rfl (congrArg (a1 + ·) ic_8) (by decide) rfl ?_
    refine GG.iload_n C dJ12_numberOfTrailingZeros_44 1 rfl ?_
    refine GG.bipush C dJ12_numberOfTrailingZeros_45 bp_8 ?_
    refine GG.iushr C dJ12_numberOfTrailingZeros_47 ?_
    refine GG.topi fun x8 hx8 => ?_
    have hf := ltb_s hx8 hf
    refine GG.istore_n C (lv' := [(0, .int x8), (1, .int (a1 + (nI 8)))]) dJ12_numberOfTrailingZeros_48 (by decide) rfl ?_
    refine GG.iload_n C dJ12_numberOfTrailingZeros_49 0 rfl ?_
    refine GG.bipush C dJ12_numberOfTrailingZeros_50 bp_16 ?_
    refine GG.icmp_le C (tgt := 62) dJ12_numberOfTrailingZeros_52 (by decide) (fun c9 => ?_) (fun c9 => ?_)
    · have hf := if_t hf c9
      refine GG.sub [0, 1] rfl ?_
      exact gJ12_numberOfTrailingZeros_62 C E  _ _ hf
    · have hf := if_f hf c9
      refine GG.iinc C (v := ((a1 + (nI 8)) + (nI 4))) (lv' := [(1, .int ((a1 + (nI 8)) + (nI 4))), (0, .int x8)]) dJ12_numberOfTrailingZeros_55 1 rfl (congrArg ((a1 + (nI 8)) + ·) ic_4) (by decide) rfl ?_
      refine GG.iload_n C dJ12_numberOfTrailingZeros_58 1 rfl ?_
      refine GG.iconst C dJ12_numberOfTrailingZeros_59 ic_4 ?_
      refine GG.iushr C dJ12_numberOfTrailingZeros_60 ?_
      refine GG.topi fun x10 hx10 => ?_
      have hf := ltb_s hx10 hf
      refine GG.istore_n C (lv' := [(0, .int x10), (1, .int ((a1 + (nI 8)) + (nI 4)))]) dJ12_numberOfTrailingZeros_61 (by decide) rfl ?_
      refine GG.sub [0, 1] rfl ?_
      exact gJ12_numberOfTrailingZeros_62 C E  _ _ hf
theorem gJ12_numberOfTrailingZeros {K : gK} {M : XS} {S : Option MS}  {a0 : Int32} {o : Int32} (hf : fJ12_numberOfTrailingZeros a0 = some o) : gMet K yJ12_numberOfTrailingZeros cJ12_numberOfTrailingZeros 2 (some Jvm.ClassFile.FieldType.int) rJ12_numberOfTrailingZeros [(.int a0)] M S (some (.int o)) M S := by
  refine gMet.of pn_J12 (Nat.le_of_ble_eq_true rfl) fun X C E => ?_
  unfold fJ12_numberOfTrailingZeros at hf
  show GG K X 2 0 0 M S 0 [(0, .int a0)] []
  refine GG.iload_n C dJ12_numberOfTrailingZeros_0 0 rfl ?_
  refine GG.iconst C dJ12_numberOfTrailingZeros_1 ic_m1 ?_
  refine GG.ixor C dJ12_numberOfTrailingZeros_2 ?_
  refine GG.iload_n C dJ12_numberOfTrailingZeros_3 0 rfl ?_
  refine GG.iconst C dJ12_numberOfTrailingZeros_4 ic_1 ?_
  refine GG.isub C dJ12_numberOfTrailingZeros_5 ?_
  refine GG.iand C dJ12_numberOfTrailingZeros_6 ?_
  refine GG.topi fun x1 hx1 => ?_
  have hf := ltb_s hx1 hf
  refine GG.istore_n C (lv' := [(0, .int x1)]) dJ12_numberOfTrailingZeros_7 (by decide) rfl ?_
  refine GG.iload_n C dJ12_numberOfTrailingZeros_8 0 rfl ?_
  refine GG.if_gt C (tgt := 17) dJ12_numberOfTrailingZeros_9 (by decide) (fun c2 => ?_) (fun c2 => ?_)
  · have hf := if_t hf c2
    refine GG.iconst C dJ12_numberOfTrailingZeros_17 ic_1 ?_
    refine GG.istore_n C (lv' := [(1, .int (nI 1)), (0, .int x1)]) dJ12_numberOfTrailingZeros_18 (by decide) rfl ?_
    refine GG.iload_n C dJ12_numberOfTrailingZeros_19 1 rfl ?_
    refine GG.ldcw C (v := (nI 65536)) q1198 dJ12_numberOfTrailingZeros_20 ?_
    refine GG.icmp_le C (tgt := 34) dJ12_numberOfTrailingZeros_23 (by decide) (fun c3 => ?_) (fun c3 => ?_)
    · have hf := if_t hf c3
      refine GG.sub [1, 0] rfl ?_
      exact gJ12_numberOfTrailingZeros_34 C E  _ _ hf
    · have hf := if_f hf c3
      refine GG.iinc C (v := ((nI 1) + (nI 16))) (lv' := [(1, .int ((nI 1) + (nI 16))), (0, .int x1)]) dJ12_numberOfTrailingZeros_26 0 rfl (congrArg ((nI 1) + ·) ic_16) (by decide) rfl ?_
      refine GG.iload_n C dJ12_numberOfTrailingZeros_29 1 rfl ?_
      refine GG.bipush C dJ12_numberOfTrailingZeros_30 bp_16 ?_
      refine GG.iushr C dJ12_numberOfTrailingZeros_32 ?_
      refine GG.topi fun x4 hx4 => ?_
      have hf := ltb_s hx4 hf
      refine GG.istore_n C (lv' := [(0, .int x4), (1, .int ((nI 1) + (nI 16)))]) dJ12_numberOfTrailingZeros_33 (by decide) rfl ?_
      refine GG.sub [0, 1] rfl ?_
      exact gJ12_numberOfTrailingZeros_34 C E  _ _ hf
  · have hf := if_f hf c2
    refine GG.iload_n C dJ12_numberOfTrailingZeros_12 0 rfl ?_
    refine GG.bipush C dJ12_numberOfTrailingZeros_13 bp_32 ?_
    refine GG.iand C dJ12_numberOfTrailingZeros_15 ?_
    have hf := Option.some.inj hf
    subst hf
    exact GG.iret C E dJ12_numberOfTrailingZeros_16
theorem gJ12_numberOfLeadingZeros_61 {K : gK} {X : gX} {M : XS} {S : Option MS} (C : gC K X cJ12_numberOfLeadingZeros 2 yJ12_numberOfLeadingZeros (some Jvm.ClassFile.FieldType.int) rJ12_numberOfLeadingZeros)  {o : Int32} (E : gE K X (some (.int o)) M S rJ12_numberOfLeadingZeros.cells rJ12_numberOfLeadingZeros.slots)   :
    ∀ (a0 : Int32) (a1 : Int32), fJ12_numberOfLeadingZeros_61  a0 a1 = some o → GG K X 2 0 0 M S 61 [(0, .int a0), (1, .int a1)] [] := by
  intro a0 a1 hf
  unfold fJ12_numberOfLeadingZeros_61 at hf
  refine GG.iload_n C dJ12_numberOfLeadingZeros_61 0 rfl ?_
  refine GG.iconst C dJ12_numberOfLeadingZeros_62 ic_4 ?_
  refine GG.icmp_lt C (tgt := 73) dJ12_numberOfLeadingZeros_63 (by decide) (fun c11 => ?_) (fun c11 => ?_)
  · have hf := if_t hf c11
    refine GG.iload_n C dJ12_numberOfLeadingZeros_73 1 rfl ?_
    refine GG.iload_n C dJ12_numberOfLeadingZeros_74 0 rfl ?_
    refine GG.iconst C dJ12_numberOfLeadingZeros_75 ic_1 ?_
    refine GG.iushr C dJ12_numberOfLeadingZeros_76 ?_
    refine GG.isub C dJ12_numberOfLeadingZeros_77 ?_
    have hf := Option.some.inj hf
    subst hf
    exact GG.iret C E dJ12_numberOfLeadingZeros_78
  · have hf := if_f hf c11
    refine GG.iinc C (v := (a1 + (-2 : Int32))) (lv' := [(1, .int (a1 + (-2 : Int32))), (0, .int a0)]) dJ12_numberOfLeadingZeros_66 1 rfl (congrArg (a1 + ·) ic_m2) (by decide) rfl ?_
    refine GG.iload_n C dJ12_numberOfLeadingZeros_69 1 rfl ?_
    refine GG.iconst C dJ12_numberOfLeadingZeros_70 ic_2 ?_
    refine GG.iushr C dJ12_numberOfLeadingZeros_71 ?_
    refine GG.topi fun x12 hx12 => ?_
    have hf := ltb_s hx12 hf
    refine GG.istore_n C (lv' := [(0, .int x12), (1, .int (a1 + (-2 : Int32)))]) dJ12_numberOfLeadingZeros_72 (by decide) rfl ?_
    refine GG.iload_n C dJ12_numberOfLeadingZeros_73 1 rfl ?_
    refine GG.iload_n C dJ12_numberOfLeadingZeros_74 0 rfl ?_
    refine GG.iconst C dJ12_numberOfLeadingZeros_75 ic_1 ?_
    refine GG.iushr C dJ12_numberOfLeadingZeros_76 ?_
    refine GG.isub C dJ12_numberOfLeadingZeros_77 ?_
    have hf := Option.some.inj hf
    subst hf
    exact GG.iret C E dJ12_numberOfLeadingZeros_78
theorem gJ12_numberOfLeadingZeros_33 {K : gK} {X : gX} {M : XS} {S : Option MS} (C : gC K X cJ12_numberOfLeadingZeros 2 yJ12_numberOfLeadingZeros (some Jvm.ClassFile.FieldType.int) rJ12_numberOfLeadingZeros)  {o : Int32} (E : gE K X (some (.int o)) M S rJ12_numberOfLeadingZeros.cells rJ12_numberOfLeadingZeros.slots)   :
    ∀ (a0 : Int32) (a1 : Int32), fJ12_numberOfLeadingZeros_33  a0 a1 = some o → GG K X 2 0 0 M S 33 [(0, .int a0), (1, .int a1)] [] := by
  intro a0 a1 hf
  unfold fJ12_numberOfLeadingZeros_33 at hf
  refine GG.iload_n C dJ12_numberOfLeadingZeros_33 0 rfl ?_
  refine GG.sipush C dJ12_numberOfLeadingZeros_34 sp_256 ?_
  refine GG.icmp_lt C (tgt := 48) dJ12_numberOfLeadingZeros_37 (by decide) (fun c5 => ?_) (fun c5 => ?_)
  · have hf := if_t hf c5
    refine GG.iload_n C dJ12_numberOfLeadingZeros_48 0 rfl ?_
    refine GG.bipush C dJ12_numberOfLeadingZeros_49 bp_16 ?_
    refine GG.icmp_lt C (tgt := 61) dJ12_numberOfLeadingZeros_51 (by decide) (fun c6 => ?_) (fun c6 => ?_)
    · have hf := if_t hf c6
      refine GG.sub [0, 1] rfl ?_
      exact gJ12_numberOfLeadingZeros_61 C E  _ _ hf
    · have hf := if_f hf c6
      refine GG.iinc C (v := (a1 + (-4 : Int32))) (lv' := [(1, .int (a1 + (-4 : Int32))), (0, .int a0)]) dJ12_numberOfLeadingZeros_54 1 rfl (congrArg (a1 + ·) ic_m4) (by decide) rfl ?_
      refine GG.iload_n C dJ12_numberOfLeadingZeros_57 1 rfl ?_
      refine GG.iconst C dJ12_numberOfLeadingZeros_58 ic_4 ?_
      refine GG.iushr C dJ12_numberOfLeadingZeros_59 ?_
      refine GG.topi fun x7 hx7 => ?_
      have hf := ltb_s hx7 hf
      refine GG.istore_n C (lv' := [(0, .int x7), (1, .int (a1 + (-4 : Int32)))]) dJ12_numberOfLeadingZeros_60 (by decide) rfl ?_
      refine GG.sub [0, 1] rfl ?_
      exact gJ12_numberOfLeadingZeros_61 C E  _ _ hf
  · have hf := if_f hf c5
    refine GG.iinc C (v := (a1 + (-8 : Int32))) (lv' := [(1, .int (a1 + (-8 : Int32))), (0, .int a0)]) dJ12_numberOfLeadingZeros_40 1 rfl (congrArg (a1 + ·) ic_m8) (by decide) rfl ?_
    refine GG.iload_n C dJ12_numberOfLeadingZeros_43 1 rfl ?_
    refine GG.bipush C dJ12_numberOfLeadingZeros_44 bp_8 ?_
    refine GG.iushr C dJ12_numberOfLeadingZeros_46 ?_
    refine GG.topi fun x8 hx8 => ?_
    have hf := ltb_s hx8 hf
    refine GG.istore_n C (lv' := [(0, .int x8), (1, .int (a1 + (-8 : Int32)))]) dJ12_numberOfLeadingZeros_47 (by decide) rfl ?_
    refine GG.iload_n C dJ12_numberOfLeadingZeros_48 0 rfl ?_
    refine GG.bipush C dJ12_numberOfLeadingZeros_49 bp_16 ?_
    refine GG.icmp_lt C (tgt := 61) dJ12_numberOfLeadingZeros_51 (by decide) (fun c9 => ?_) (fun c9 => ?_)
    · have hf := if_t hf c9
      refine GG.sub [0, 1] rfl ?_
      exact gJ12_numberOfLeadingZeros_61 C E  _ _ hf
    · have hf := if_f hf c9
      refine GG.iinc C (v := ((a1 + (-8 : Int32)) + (-4 : Int32))) (lv' := [(1, .int ((a1 + (-8 : Int32)) + (-4 : Int32))), (0, .int x8)]) dJ12_numberOfLeadingZeros_54 1 rfl (congrArg ((a1 + (-8 : Int32)) + ·) ic_m4) (by decide) rfl ?_
      refine GG.iload_n C dJ12_numberOfLeadingZeros_57 1 rfl ?_
      refine GG.iconst C dJ12_numberOfLeadingZeros_58 ic_4 ?_
      refine GG.iushr C dJ12_numberOfLeadingZeros_59 ?_
      refine GG.topi fun x10 hx10 => ?_
      have hf := ltb_s hx10 hf
      refine GG.istore_n C (lv' := [(0, .int x10), (1, .int ((a1 + (-8 : Int32)) + (-4 : Int32)))]) dJ12_numberOfLeadingZeros_60 (by decide) rfl ?_
      refine GG.sub [0, 1] rfl ?_
      exact gJ12_numberOfLeadingZeros_61 C E  _ _ hf
theorem gJ12_numberOfLeadingZeros {K : gK} {M : XS} {S : Option MS}  {a0 : Int32} {o : Int32} (hf : fJ12_numberOfLeadingZeros a0 = some o) : gMet K yJ12_numberOfLeadingZeros cJ12_numberOfLeadingZeros 2 (some Jvm.ClassFile.FieldType.int) rJ12_numberOfLeadingZeros [(.int a0)] M S (some (.int o)) M S := by
  refine gMet.of pn_J12 (Nat.le_of_ble_eq_true rfl) fun X C E => ?_
  unfold fJ12_numberOfLeadingZeros at hf
  show GG K X 2 0 0 M S 0 [(0, .int a0)] []
  refine GG.iload_n C dJ12_numberOfLeadingZeros_0 0 rfl ?_
  refine GG.if_gt C (tgt := 15) dJ12_numberOfLeadingZeros_1 (by decide) (fun c1 => ?_) (fun c1 => ?_)
  · have hf := if_t hf c1
    refine GG.bipush C dJ12_numberOfLeadingZeros_15 bp_31 ?_
    refine GG.istore_n C (lv' := [(1, .int (nI 31)), (0, .int a0)]) dJ12_numberOfLeadingZeros_17 (by decide) rfl ?_
    refine GG.iload_n C dJ12_numberOfLeadingZeros_18 1 rfl ?_
    refine GG.ldcw C (v := (nI 65536)) q1198 dJ12_numberOfLeadingZeros_19 ?_
    refine GG.icmp_lt C (tgt := 33) dJ12_numberOfLeadingZeros_22 (by decide) (fun c2 => ?_) (fun c2 => ?_)
    · have hf := if_t hf c2
      refine GG.sub [1, 0] rfl ?_
      exact gJ12_numberOfLeadingZeros_33 C E  _ _ hf
    · have hf := if_f hf c2
      refine GG.iinc C (v := ((nI 31) + (-16 : Int32))) (lv' := [(1, .int ((nI 31) + (-16 : Int32))), (0, .int a0)]) dJ12_numberOfLeadingZeros_25 0 rfl (congrArg ((nI 31) + ·) ic_m16) (by decide) rfl ?_
      refine GG.iload_n C dJ12_numberOfLeadingZeros_28 1 rfl ?_
      refine GG.bipush C dJ12_numberOfLeadingZeros_29 bp_16 ?_
      refine GG.iushr C dJ12_numberOfLeadingZeros_31 ?_
      refine GG.topi fun x3 hx3 => ?_
      have hf := ltb_s hx3 hf
      refine GG.istore_n C (lv' := [(0, .int x3), (1, .int ((nI 31) + (-16 : Int32)))]) dJ12_numberOfLeadingZeros_32 (by decide) rfl ?_
      refine GG.sub [0, 1] rfl ?_
      exact gJ12_numberOfLeadingZeros_33 C E  _ _ hf
  · have hf := if_f hf c1
    refine GG.iload_n C dJ12_numberOfLeadingZeros_4 0 rfl ?_
    refine GG.if_ne C (tgt := 13) dJ12_numberOfLeadingZeros_5 (by decide) (fun c4 => ?_) (fun c4 => ?_)
    · have hf := if_f hf c4
      refine GG.iconst C dJ12_numberOfLeadingZeros_13 ic_0 ?_
      have hf := Option.some.inj hf
      subst hf
      exact GG.iret C E dJ12_numberOfLeadingZeros_14
    · have hf := if_t hf c4
      refine GG.bipush C dJ12_numberOfLeadingZeros_8 bp_32 ?_
      refine GG.goto C (tgt := 14) dJ12_numberOfLeadingZeros_10 (by decide) ?_
      have hf := Option.some.inj hf
      subst hf
      exact GG.iret C E dJ12_numberOfLeadingZeros_14
theorem gX6_status {K : gK} {M : XS}  {S : MS} {o : (Int32 × MS)} (hf : fX6_status S = some o) : gMet K yX6_status cX6_status 1 (some Jvm.ClassFile.FieldType.int) rX6_status [(.ref (kh K))] M (some S) (some (.int o.1)) M (some o.2) := by
  refine gMet.of pn_X6 (Nat.le_of_ble_eq_true rfl) fun X C E => ?_
  unfold fX6_status at hf
  show GG K X 1 0 0 M (some S) 0 [(0, .ref (kh K))] []
  refine GG.aload_n C dX6_status_0 0 rfl ?_
  refine GG.iconst C dX6_status_1 ic_0 ?_
  refine GG.pm1 C rfl dX6_status_2 ?_
  refine GG.topS fun S1 hS1 => ?_
  have hf := ltb_s hS1 hf
  refine GG.aload_n C dX6_status_5 0 rfl ?_
  refine GG.gm0 C rfl dX6_status_6 ?_
  have hf := Option.some.inj hf
  subst hf
  exact GG.iret C E dX6_status_9
theorem gX6_top {K : gK} {M : XS}  {S : MS} {o : (Int64 × MS)} (hf : fX6_top S = some o) : gMet K yX6_top cX6_top 1 (some Jvm.ClassFile.FieldType.long) rX6_top [(.ref (kh K))] M (some S) (some (.long o.1)) M (some o.2) := by
  refine gMet.of pn_X6 (Nat.le_of_ble_eq_true rfl) fun X C E => ?_
  unfold fX6_top at hf
  show GG K X 1 0 0 M (some S) 0 [(0, .ref (kh K))] []
  refine GG.aload_n C dX6_top_0 0 rfl ?_
  refine GG.iconst C dX6_top_1 ic_0 ?_
  refine GG.pm1 C rfl dX6_top_2 ?_
  refine GG.topS fun S1 hS1 => ?_
  have hf := ltb_s hS1 hf
  refine GG.aload_n C dX6_top_5 0 rfl ?_
  refine GG.gm2 C rfl dX6_top_6 ?_
  have hf := Option.some.inj hf
  subst hf
  exact GG.lret C E dX6_top_9
theorem gX6_bottom {K : gK} {M : XS}  {S : MS} {o : (Int64 × MS)} (hf : fX6_bottom S = some o) : gMet K yX6_bottom cX6_bottom 1 (some Jvm.ClassFile.FieldType.long) rX6_bottom [(.ref (kh K))] M (some S) (some (.long o.1)) M (some o.2) := by
  refine gMet.of pn_X6 (Nat.le_of_ble_eq_true rfl) fun X C E => ?_
  unfold fX6_bottom at hf
  show GG K X 1 0 0 M (some S) 0 [(0, .ref (kh K))] []
  refine GG.aload_n C dX6_bottom_0 0 rfl ?_
  refine GG.iconst C dX6_bottom_1 ic_0 ?_
  refine GG.pm1 C rfl dX6_bottom_2 ?_
  refine GG.topS fun S1 hS1 => ?_
  have hf := ltb_s hS1 hf
  refine GG.aload_n C dX6_bottom_5 0 rfl ?_
  refine GG.gm3 C rfl dX6_bottom_6 ?_
  have hf := Option.some.inj hf
  subst hf
  exact GG.lret C E dX6_bottom_9
theorem gX6_no {K : gK} {M : XS}  {S : MS} {a1 : Int32} {o : (Int32 × MS)} (hf : fX6_no S a1 = some o) : gMet K yX6_no cX6_no 2 (some Jvm.ClassFile.FieldType.boolean) rX6_no [(.ref (kh K)), (.int a1)] M (some S) (some (.int o.1)) M (some o.2) := by
  refine gMet.of pn_X6 (Nat.le_of_ble_eq_true rfl) fun X C E => ?_
  unfold fX6_no at hf
  show GG K X 2 0 0 M (some S) 0 [(0, .ref (kh K)), (1, .int a1)] []
  refine GG.aload_n C dX6_no_0 0 rfl ?_
  refine GG.iload_n C dX6_no_1 1 rfl ?_
  refine GG.pm0 C rfl dX6_no_2 ?_
  refine GG.topS fun S1 hS1 => ?_
  have hf := ltb_s hS1 hf
  refine GG.iconst C dX6_no_5 ic_0 ?_
  have hf := Option.some.inj hf
  subst hf
  exact GG.zret C zb_0 E dX6_no_6
theorem gX6_tray_74 {K : gK} {X : gX} {M : XS} (C : gC K X cX6_tray 5 yX6_tray (some Jvm.ClassFile.FieldType.boolean) rX6_tray)  {o : (Int32 × MS)} (E : gE K X (some (.int o.1)) M (some o.2) rX6_tray.cells rX6_tray.slots)   :
    ∀ (n : Nat) (S : MS) (a1 : Int32) (a3 : Int32) (a4 : Int32), fX6_tray_74  n S a1 a3 a4 = some o → GG K X 5 0 0 M (some S) 74 [(0, .ref (kh K)), (1, .int a1), (3, .int a3), (4, .int a4)] [] := by
  intro n
  induction n with
  | zero => intro S a1 a3 a4 hf; cases hf
  | succ n ih =>
    intro S a1 a3 a4 hf
    rw [fX6_tray_74] at hf
    refine GG.iload C dX6_tray_74 3 rfl ?_
    refine GG.iload_n C dX6_tray_76 2 rfl ?_
    refine GG.icmp_ge C (tgt := 99) dX6_tray_77 (by decide) (fun c23 => ?_) (fun c23 => ?_)
    · have hf := if_t hf c23
      refine GG.iconst C dX6_tray_99 ic_1 ?_
      have hf := Option.some.inj hf
      subst hf
      exact GG.zret C zb_1 E dX6_tray_100
    · have hf := if_f hf c23
      refine GG.aload_n C dX6_tray_80 0 rfl ?_
      refine GG.gm6 C rfl dX6_tray_81 ?_
      refine GG.bipush C dX6_tray_84 bp_60 ?_
      refine GG.iload_n C dX6_tray_86 1 rfl ?_
      refine GG.imul C dX6_tray_87 ?_
      refine GG.iload C dX6_tray_88 3 rfl ?_
      refine GG.iadd C dX6_tray_90 ?_
      refine GG.lconst C dX6_tray_91 lc_0 ?_
      obtain ⟨S24, hS24, hf⟩ := obd_some hf
      refine GG.mls C hS24 dX6_tray_92 ?_
      refine GG.iinc C (v := (a4 + (nI 1))) (lv' := [(4, .int (a4 + (nI 1))), (0, .ref (kh K)), (1, .int a1), (3, .int a3)]) dX6_tray_93 3 rfl (congrArg (a4 + ·) ic_1) (by decide) rfl ?_
      refine GG.goto C (tgt := 74) dX6_tray_96 (by decide) ?_
      refine GG.sub [1, 2, 3, 0] rfl ?_
      exact ih _ _ _ _ hf
theorem gX6_tray {K : gK} {M : XS}  {S : MS} {a1 : Int32} {a2 : Int32} {a3 : Int32} {o : (Int32 × MS)} (hf : fX6_tray S a1 a2 a3 = some o) : gMet K yX6_tray cX6_tray 5 (some Jvm.ClassFile.FieldType.boolean) rX6_tray [(.ref (kh K)), (.int a1), (.int a2), (.int a3)] M (some S) (some (.int o.1)) M (some o.2) := by
  refine gMet.of pn_X6 (Nat.le_of_ble_eq_true rfl) fun X C E => ?_
  unfold fX6_tray at hf
  show GG K X 5 0 0 M (some S) 0 [(0, .ref (kh K)), (1, .int a1), (2, .int a2), (3, .int a3)] []
  refine GG.aload_n C dX6_tray_0 0 rfl ?_
  refine GG.iconst C dX6_tray_1 ic_0 ?_
  refine GG.pm1 C rfl dX6_tray_2 ?_
  refine GG.topS fun S1 hS1 => ?_
  have hf := ltb_s hS1 hf
  refine GG.aload_n C dX6_tray_5 0 rfl ?_
  refine GG.iconst C dX6_tray_6 ic_0 ?_
  refine GG.pm0 C rfl dX6_tray_7 ?_
  refine GG.topS fun S2 hS2 => ?_
  have hf := ltb_s hS2 hf
  refine GG.iload_n C dX6_tray_10 1 rfl ?_
  refine GG.if_lt C (tgt := 28) dX6_tray_11 (by decide) (fun c3 => ?_) (fun c3 => ?_)
  · have hf := if_t hf c3
    refine GG.aload_n C dX6_tray_28 0 rfl ?_
    refine GG.iconst C dX6_tray_29 ic_1 ?_
    obtain ⟨p4, hp4, hf⟩ := obd_some hf
    refine GG.c_X6_90 C rfl (gX6_no hp4) ⟨Nat.le_of_ble_eq_true rfl, Nat.le_of_ble_eq_true rfl⟩ ⟨Nat.le_of_ble_eq_true rfl, Nat.le_of_ble_eq_true rfl⟩ (Nat.le_of_ble_eq_true rfl) dX6_tray_30 ?_
    obtain ⟨c5, hf⟩ := gd_some hf
    have hf := Option.some.inj hf
    subst hf
    exact GG.zret C c5 E dX6_tray_33
  · have hf := if_f hf c3
    refine GG.iload_n C dX6_tray_14 1 rfl ?_
    refine GG.iconst C dX6_tray_15 ic_4 ?_
    refine GG.icmp_ge C (tgt := 28) dX6_tray_16 (by decide) (fun c6 => ?_) (fun c6 => ?_)
    · have hf := if_t hf c6
      refine GG.aload_n C dX6_tray_28 0 rfl ?_
      refine GG.iconst C dX6_tray_29 ic_1 ?_
      obtain ⟨p7, hp7, hf⟩ := obd_some hf
      refine GG.c_X6_90 C rfl (gX6_no hp7) ⟨Nat.le_of_ble_eq_true rfl, Nat.le_of_ble_eq_true rfl⟩ ⟨Nat.le_of_ble_eq_true rfl, Nat.le_of_ble_eq_true rfl⟩ (Nat.le_of_ble_eq_true rfl) dX6_tray_30 ?_
      obtain ⟨c8, hf⟩ := gd_some hf
      have hf := Option.some.inj hf
      subst hf
      exact GG.zret C c8 E dX6_tray_33
    · have hf := if_f hf c6
      refine GG.iload_n C dX6_tray_19 2 rfl ?_
      refine GG.if_lt C (tgt := 28) dX6_tray_20 (by decide) (fun c9 => ?_) (fun c9 => ?_)
      · have hf := if_t hf c9
        refine GG.aload_n C dX6_tray_28 0 rfl ?_
        refine GG.iconst C dX6_tray_29 ic_1 ?_
        obtain ⟨p10, hp10, hf⟩ := obd_some hf
        refine GG.c_X6_90 C rfl (gX6_no hp10) ⟨Nat.le_of_ble_eq_true rfl, Nat.le_of_ble_eq_true rfl⟩ ⟨Nat.le_of_ble_eq_true rfl, Nat.le_of_ble_eq_true rfl⟩ (Nat.le_of_ble_eq_true rfl) dX6_tray_30 ?_
        obtain ⟨c11, hf⟩ := gd_some hf
        have hf := Option.some.inj hf
        subst hf
        exact GG.zret C c11 E dX6_tray_33
      · have hf := if_f hf c9
        refine GG.iload_n C dX6_tray_23 2 rfl ?_
        refine GG.iconst C dX6_tray_24 ic_3 ?_
        refine GG.icmp_le C (tgt := 34) dX6_tray_25 (by decide) (fun c12 => ?_) (fun c12 => ?_)
        · have hf := if_t hf c12
          refine GG.iload_n C dX6_tray_34 3 rfl ?_
          refine GG.bipush C dX6_tray_35 bp_60 ?_
          refine GG.icmp_le C (tgt := 46) dX6_tray_37 (by decide) (fun c13 => ?_) (fun c13 => ?_)
          · have hf := if_t hf c13
            refine GG.iload_n C dX6_tray_46 3 rfl ?_
            refine GG.if_ge C (tgt := 57) dX6_tray_47 (by decide) (fun c14 => ?_) (fun c14 => ?_)
            · have hf := if_t hf c14
              refine GG.aload_n C dX6_tray_57 0 rfl ?_
              refine GG.gm4 C rfl dX6_tray_58 ?_
              refine GG.iload_n C dX6_tray_61 1 rfl ?_
              refine GG.iload_n C dX6_tray_62 2 rfl ?_
              obtain ⟨S15, hS15, hf⟩ := obd_some hf
              refine GG.mis C rfl hS15 dX6_tray_63 ?_
              refine GG.aload_n C dX6_tray_64 0 rfl ?_
              refine GG.gm5 C rfl dX6_tray_65 ?_
              refine GG.iload_n C dX6_tray_68 1 rfl ?_
              refine GG.iload_n C dX6_tray_69 3 rfl ?_
              obtain ⟨S16, hS16, hf⟩ := obd_some hf
              refine GG.mis C rfl hS16 dX6_tray_70 ?_
              refine GG.iconst C dX6_tray_71 ic_0 ?_
              refine GG.istore C (lv' := [(4, .int (nI 0)), (0, .ref (kh K)), (1, .int a1), (2, .int a2), (3, .int a3)]) dX6_tray_72 (by decide) rfl ?_
              refine GG.sub [1, 2, 4, 0] rfl ?_
              exact gX6_tray_74 C E  FU _ _ _ _ hf
            · have hf := if_f hf c14
              refine GG.aload_n C dX6_tray_50 0 rfl ?_
              refine GG.bipush C dX6_tray_51 bp_6 ?_
              obtain ⟨p17, hp17, hf⟩ := obd_some hf
              refine GG.c_X6_90 C rfl (gX6_no hp17) ⟨Nat.le_of_ble_eq_true rfl, Nat.le_of_ble_eq_true rfl⟩ ⟨Nat.le_of_ble_eq_true rfl, Nat.le_of_ble_eq_true rfl⟩ (Nat.le_of_ble_eq_true rfl) dX6_tray_53 ?_
              obtain ⟨c18, hf⟩ := gd_some hf
              have hf := Option.some.inj hf
              subst hf
              exact GG.zret C c18 E dX6_tray_56
          · have hf := if_f hf c13
            refine GG.aload_n C dX6_tray_40 0 rfl ?_
            refine GG.iconst C dX6_tray_41 ic_5 ?_
            obtain ⟨p19, hp19, hf⟩ := obd_some hf
            refine GG.c_X6_90 C rfl (gX6_no hp19) ⟨Nat.le_of_ble_eq_true rfl, Nat.le_of_ble_eq_true rfl⟩ ⟨Nat.le_of_ble_eq_true rfl, Nat.le_of_ble_eq_true rfl⟩ (Nat.le_of_ble_eq_true rfl) dX6_tray_42 ?_
            obtain ⟨c20, hf⟩ := gd_some hf
            have hf := Option.some.inj hf
            subst hf
            exact GG.zret C c20 E dX6_tray_45
        · have hf := if_f hf c12
          refine GG.aload_n C dX6_tray_28 0 rfl ?_
          refine GG.iconst C dX6_tray_29 ic_1 ?_
          obtain ⟨p21, hp21, hf⟩ := obd_some hf
          refine GG.c_X6_90 C rfl (gX6_no hp21) ⟨Nat.le_of_ble_eq_true rfl, Nat.le_of_ble_eq_true rfl⟩ ⟨Nat.le_of_ble_eq_true rfl, Nat.le_of_ble_eq_true rfl⟩ (Nat.le_of_ble_eq_true rfl) dX6_tray_30 ?_
          obtain ⟨c22, hf⟩ := gd_some hf
          have hf := Option.some.inj hf
          subst hf
          exact GG.zret C c22 E dX6_tray_33
theorem gX6_trayed {K : gK} {M : XS}  {S : MS} {a1 : Int32} {o : Int32} (hf : fX6_trayed S a1 = some o) : gMet K yX6_trayed cX6_trayed 2 (some Jvm.ClassFile.FieldType.int) rX6_trayed [(.ref (kh K)), (.int a1)] M (some S) (some (.int o)) M (some S) := by
  refine gMet.of pn_X6 (Nat.le_of_ble_eq_true rfl) fun X C E => ?_
  unfold fX6_trayed at hf
  show GG K X 2 0 0 M (some S) 0 [(0, .ref (kh K)), (1, .int a1)] []
  refine GG.iload_n C dX6_trayed_0 1 rfl ?_
  refine GG.if_lt C (tgt := 9) dX6_trayed_1 (by decide) (fun c1 => ?_) (fun c1 => ?_)
  · have hf := if_t hf c1
    refine GG.iconst C dX6_trayed_9 ic_1 ?_
    refine GG.goto C (tgt := 27) dX6_trayed_10 (by decide) ?_
    have hf := Option.some.inj hf
    subst hf
    exact GG.iret C E dX6_trayed_27
  · have hf := if_f hf c1
    refine GG.iload_n C dX6_trayed_4 1 rfl ?_
    refine GG.iconst C dX6_trayed_5 ic_4 ?_
    refine GG.icmp_lt C (tgt := 13) dX6_trayed_6 (by decide) (fun c2 => ?_) (fun c2 => ?_)
    · have hf := if_t hf c2
      refine GG.aload_n C dX6_trayed_13 0 rfl ?_
      refine GG.gm5 C rfl dX6_trayed_14 ?_
      refine GG.iload_n C dX6_trayed_17 1 rfl ?_
      obtain ⟨v3, hv3, hf⟩ := obd_some hf
      refine GG.mi C rfl hv3 dX6_trayed_18 ?_
      refine GG.if_ge C (tgt := 26) dX6_trayed_19 (by decide) (fun c4 => ?_) (fun c4 => ?_)
      · have hf := if_t hf c4
        refine GG.iconst C dX6_trayed_26 ic_0 ?_
        have hf := Option.some.inj hf
        subst hf
        exact GG.iret C E dX6_trayed_27
      · have hf := if_f hf c4
        refine GG.iconst C dX6_trayed_22 ic_3 ?_
        refine GG.goto C (tgt := 27) dX6_trayed_23 (by decide) ?_
        have hf := Option.some.inj hf
        subst hf
        exact GG.iret C E dX6_trayed_27
    · have hf := if_f hf c2
      refine GG.iconst C dX6_trayed_9 ic_1 ?_
      refine GG.goto C (tgt := 27) dX6_trayed_10 (by decide) ?_
      have hf := Option.some.inj hf
      subst hf
      exact GG.iret C E dX6_trayed_27
theorem gX6_placed {K : gK} {M : XS}  {S : MS} {a1 : Int32} {a2 : Int32} {o : Int32} (hf : fX6_placed S a1 a2 = some o) : gMet K yX6_placed cX6_placed 4 (some Jvm.ClassFile.FieldType.int) rX6_placed [(.ref (kh K)), (.int a1), (.int a2)] M (some S) (some (.int o)) M (some S) := by
  refine gMet.of pn_X6 (Nat.le_of_ble_eq_true rfl) fun X C E => ?_
  unfold fX6_placed at hf
  show GG K X 4 0 0 M (some S) 0 [(0, .ref (kh K)), (1, .int a1), (2, .int a2)] []
  refine GG.aload_n C dX6_placed_0 0 rfl ?_
  refine GG.iload_n C dX6_placed_1 1 rfl ?_
  obtain ⟨v1, hv1, hf⟩ := obd_some hf
  refine GG.c_X6_94 C rfl (gX6_trayed hv1) ⟨Nat.le_of_ble_eq_true rfl, Nat.le_of_ble_eq_true rfl⟩ ⟨Nat.le_of_ble_eq_true rfl, Nat.le_of_ble_eq_true rfl⟩ (Nat.le_of_ble_eq_true rfl) dX6_placed_2 ?_
  refine GG.istore_n C (lv' := [(3, .int v1), (0, .ref (kh K)), (1, .int a1), (2, .int a2)]) dX6_placed_5 (by decide) rfl ?_
  refine GG.iload_n C dX6_placed_6 0 rfl ?_
  refine GG.if_le C (tgt := 14) dX6_placed_7 (by decide) (fun c2 => ?_) (fun c2 => ?_)
  · have hf := if_t hf c2
    refine GG.iload_n C dX6_placed_14 3 rfl ?_
    refine GG.if_lt C (tgt := 28) dX6_placed_15 (by decide) (fun c3 => ?_) (fun c3 => ?_)
    · have hf := if_t hf c3
      refine GG.iconst C dX6_placed_28 ic_4 ?_
      refine GG.goto C (tgt := 33) dX6_placed_29 (by decide) ?_
      have hf := Option.some.inj hf
      subst hf
      exact GG.iret C E dX6_placed_33
    · have hf := if_f hf c3
      refine GG.iload_n C dX6_placed_18 3 rfl ?_
      refine GG.aload_n C dX6_placed_19 1 rfl ?_
      refine GG.gm5 C rfl dX6_placed_20 ?_
      refine GG.iload_n C dX6_placed_23 2 rfl ?_
      obtain ⟨v4, hv4, hf⟩ := obd_some hf
      refine GG.mi C rfl hv4 dX6_placed_24 ?_
      refine GG.icmp_lt C (tgt := 32) dX6_placed_25 (by decide) (fun c5 => ?_) (fun c5 => ?_)
      · have hf := if_t hf c5
        refine GG.iconst C dX6_placed_32 ic_0 ?_
        have hf := Option.some.inj hf
        subst hf
        exact GG.iret C E dX6_placed_33
      · have hf := if_f hf c5
        refine GG.iconst C dX6_placed_28 ic_4 ?_
        refine GG.goto C (tgt := 33) dX6_placed_29 (by decide) ?_
        have hf := Option.some.inj hf
        subst hf
        exact GG.iret C E dX6_placed_33
  · have hf := if_f hf c2
    refine GG.iload_n C dX6_placed_10 0 rfl ?_
    refine GG.goto C (tgt := 33) dX6_placed_11 (by decide) ?_
    have hf := Option.some.inj hf
    subst hf
    exact GG.iret C E dX6_placed_33
theorem gX6_cut {K : gK} {M : XS} {S : Option MS}  {a0 : Int32} {a1 : Int64} {o : Int64} (hf : fX6_cut a0 a1 = some o) : gMet K yX6_cut cX6_cut 3 (some Jvm.ClassFile.FieldType.long) rX6_cut [(.int a0), (.long a1)] M S (some (.long o)) M S := by
  refine gMet.of pn_X6 (Nat.le_of_ble_eq_true rfl) fun X C E => ?_
  unfold fX6_cut at hf
  show GG K X 3 0 0 M S 0 [(0, .int a0), (1, .long a1)] []
  refine GG.iload_n C dX6_cut_0 0 rfl ?_
  refine GG.if_ne C (tgt := 11) dX6_cut_1 (by decide) (fun c1 => ?_) (fun c1 => ?_)
  · have hf := if_f hf c1
    refine GG.iload_n C dX6_cut_11 0 rfl ?_
    refine GG.iconst C dX6_cut_12 ic_1 ?_
    refine GG.icmp_ne C (tgt := 23) dX6_cut_13 (by decide) (fun c2 => ?_) (fun c2 => ?_)
    · have hf := if_f hf c2
      refine GG.iload_n C dX6_cut_23 0 rfl ?_
      refine GG.iconst C dX6_cut_24 ic_2 ?_
      refine GG.icmp_ne C (tgt := 34) dX6_cut_25 (by decide) (fun c3 => ?_) (fun c3 => ?_)
      · have hf := if_f hf c3
        refine GG.lload_n C dX6_cut_34 1 rfl ?_
        have hf := Option.some.inj hf
        subst hf
        exact GG.lret C E dX6_cut_35
      · have hf := if_t hf c3
        refine GG.lload_n C dX6_cut_28 1 rfl ?_
        refine GG.l2i C dX6_cut_29 ?_
        refine GG.i2l C dX6_cut_30 ?_
        refine GG.goto C (tgt := 35) dX6_cut_31 (by decide) ?_
        have hf := Option.some.inj hf
        subst hf
        exact GG.lret C E dX6_cut_35
    · have hf := if_t hf c2
      refine GG.lload_n C dX6_cut_16 1 rfl ?_
      refine GG.l2i C dX6_cut_17 ?_
      refine GG.i2s C dX6_cut_18 ?_
      refine GG.i2l C dX6_cut_19 ?_
      refine GG.goto C (tgt := 35) dX6_cut_20 (by decide) ?_
      have hf := Option.some.inj hf
      subst hf
      exact GG.lret C E dX6_cut_35
  · have hf := if_t hf c1
    refine GG.lload_n C dX6_cut_4 1 rfl ?_
    refine GG.l2i C dX6_cut_5 ?_
    refine GG.i2b C dX6_cut_6 ?_
    refine GG.i2l C dX6_cut_7 ?_
    refine GG.goto C (tgt := 35) dX6_cut_8 (by decide) ?_
    have hf := Option.some.inj hf
    subst hf
    exact GG.lret C E dX6_cut_35
theorem gX6_write {K : gK} {M : XS}  {S : MS} {a1 : Int32} {a2 : Int32} {a3 : Int64} {o : (Int32 × MS)} (hf : fX6_write S a1 a2 a3 = some o) : gMet K yX6_write cX6_write 5 (some Jvm.ClassFile.FieldType.boolean) rX6_write [(.ref (kh K)), (.int a1), (.int a2), (.long a3)] M (some S) (some (.int o.1)) M (some o.2) := by
  refine gMet.of pn_X6 (Nat.le_of_ble_eq_true rfl) fun X C E => ?_
  unfold fX6_write at hf
  show GG K X 5 0 0 M (some S) 0 [(0, .ref (kh K)), (1, .int a1), (2, .int a2), (3, .long a3)] []
  refine GG.aload_n C dX6_write_0 0 rfl ?_
  refine GG.iconst C dX6_write_1 ic_0 ?_
  refine GG.pm1 C rfl dX6_write_2 ?_
  refine GG.topS fun S1 hS1 => ?_
  have hf := ltb_s hS1 hf
  refine GG.aload_n C dX6_write_5 0 rfl ?_
  refine GG.aload_n C dX6_write_6 0 rfl ?_
  refine GG.iload_n C dX6_write_7 1 rfl ?_
  refine GG.iload_n C dX6_write_8 2 rfl ?_
  obtain ⟨v2, hv2, hf⟩ := obd_some hf
  refine GG.c_X6_98 C rfl (gX6_placed hv2) ⟨Nat.le_of_ble_eq_true rfl, Nat.le_of_ble_eq_true rfl⟩ ⟨Nat.le_of_ble_eq_true rfl, Nat.le_of_ble_eq_true rfl⟩ (Nat.le_of_ble_eq_true rfl) dX6_write_9 ?_
  refine GG.pm0 C rfl dX6_write_12 ?_
  refine GG.topS fun S3 hS3 => ?_
  have hf := ltb_s hS3 hf
  refine GG.aload_n C dX6_write_15 0 rfl ?_
  refine GG.gm0 C rfl dX6_write_16 ?_
  refine GG.if_le C (tgt := 24) dX6_write_19 (by decide) (fun c4 => ?_) (fun c4 => ?_)
  · have hf := if_t hf c4
    refine GG.aload_n C dX6_write_24 0 rfl ?_
    refine GG.gm6 C rfl dX6_write_25 ?_
    refine GG.bipush C dX6_write_28 bp_60 ?_
    refine GG.iload_n C dX6_write_30 1 rfl ?_
    refine GG.imul C dX6_write_31 ?_
    refine GG.iload_n C dX6_write_32 2 rfl ?_
    refine GG.iadd C dX6_write_33 ?_
    refine GG.aload_n C dX6_write_34 0 rfl ?_
    refine GG.gm4 C rfl dX6_write_35 ?_
    refine GG.iload_n C dX6_write_38 1 rfl ?_
    obtain ⟨v5, hv5, hf⟩ := obd_some hf
    refine GG.mi C rfl hv5 dX6_write_39 ?_
    refine GG.lload_n C dX6_write_40 3 rfl ?_
    obtain ⟨v6, hv6, hf⟩ := obd_some hf
    refine GG.c_X6_102 C rfl (gX6_cut hv6) ⟨Nat.le_of_ble_eq_true rfl, Nat.le_of_ble_eq_true rfl⟩ ⟨Nat.le_of_ble_eq_true rfl, Nat.le_of_ble_eq_true rfl⟩ (Nat.le_of_ble_eq_true rfl) dX6_write_41 ?_
    obtain ⟨S7, hS7, hf⟩ := obd_some hf
    refine GG.mls C hS7 dX6_write_44 ?_
    refine GG.iconst C dX6_write_45 ic_1 ?_
    have hf := Option.some.inj hf
    subst hf
    exact GG.zret C zb_1 E dX6_write_46
  · have hf := if_f hf c4
    refine GG.iconst C dX6_write_22 ic_0 ?_
    have hf := Option.some.inj hf
    subst hf
    exact GG.zret C zb_0 E dX6_write_23
theorem gX6_read {K : gK} {M : XS}  {S : MS} {a1 : Int32} {a2 : Int32} {o : (Int64 × MS)} (hf : fX6_read S a1 a2 = some o) : gMet K yX6_read cX6_read 3 (some Jvm.ClassFile.FieldType.long) rX6_read [(.ref (kh K)), (.int a1), (.int a2)] M (some S) (some (.long o.1)) M (some o.2) := by
  refine gMet.of pn_X6 (Nat.le_of_ble_eq_true rfl) fun X C E => ?_
  unfold fX6_read at hf
  show GG K X 3 0 0 M (some S) 0 [(0, .ref (kh K)), (1, .int a1), (2, .int a2)] []
  refine GG.aload_n C dX6_read_0 0 rfl ?_
  refine GG.iconst C dX6_read_1 ic_0 ?_
  refine GG.pm1 C rfl dX6_read_2 ?_
  refine GG.topS fun S1 hS1 => ?_
  have hf := ltb_s hS1 hf
  refine GG.aload_n C dX6_read_5 0 rfl ?_
  refine GG.aload_n C dX6_read_6 0 rfl ?_
  refine GG.iload_n C dX6_read_7 1 rfl ?_
  refine GG.iload_n C dX6_read_8 2 rfl ?_
  obtain ⟨v2, hv2, hf⟩ := obd_some hf
  refine GG.c_X6_98 C rfl (gX6_placed hv2) ⟨Nat.le_of_ble_eq_true rfl, Nat.le_of_ble_eq_true rfl⟩ ⟨Nat.le_of_ble_eq_true rfl, Nat.le_of_ble_eq_true rfl⟩ (Nat.le_of_ble_eq_true rfl) dX6_read_9 ?_
  refine GG.pm0 C rfl dX6_read_12 ?_
  refine GG.topS fun S3 hS3 => ?_
  have hf := ltb_s hS3 hf
  refine GG.aload_n C dX6_read_15 0 rfl ?_
  refine GG.gm0 C rfl dX6_read_16 ?_
  refine GG.if_le C (tgt := 28) dX6_read_19 (by decide) (fun c4 => ?_) (fun c4 => ?_)
  · have hf := if_t hf c4
    refine GG.aload_n C dX6_read_28 0 rfl ?_
    refine GG.gm6 C rfl dX6_read_29 ?_
    refine GG.bipush C dX6_read_32 bp_60 ?_
    refine GG.iload_n C dX6_read_34 1 rfl ?_
    refine GG.imul C dX6_read_35 ?_
    refine GG.iload_n C dX6_read_36 2 rfl ?_
    refine GG.iadd C dX6_read_37 ?_
    obtain ⟨v5, hv5, hf⟩ := obd_some hf
    refine GG.ml C hv5 dX6_read_38 ?_
    have hf := Option.some.inj hf
    subst hf
    exact GG.lret C E dX6_read_39
  · have hf := if_f hf c4
    refine GG.ldc2 C (v := (-1 : Int64)) q1638 dX6_read_22 ?_
    refine GG.goto C (tgt := 39) dX6_read_25 (by decide) ?_
    have hf := Option.some.inj hf
    subst hf
    exact GG.lret C E dX6_read_39
theorem gX6_pour_182 {K : gK} {X : gX} {M : XS} (C : gC K X cX6_pour 9 yX6_pour (some Jvm.ClassFile.FieldType.boolean) rX6_pour)  {o : (Int32 × MS)} (E : gE K X (some (.int o.1)) M (some o.2) rX6_pour.cells rX6_pour.slots) {k158 : MS → Int32 → Int32 → Int32 → Int32 → Int32 → Int32 → Int32 → Option (Int32 × MS)} (hk158 : ∀ (S : MS) (a1 : Int32) (a2 : Int32) (a3 : Int32) (a4 : Int32) (a5 : Int32) (a6 : Int32) (a7 : Int32), k158 S a1 a2 a3 a4 a5 a6 a7 = some o → GG K X 9 0 0 M (some S) 158 [(0, .ref (kh K)), (1, .int a1), (2, .int a2), (3, .int a3), (4, .int a4), (5, .int a5), (6, .int a6), (7, .int a7)] []) :
    ∀ (S : MS) (a1 : Int32) (a2 : Int32) (a3 : Int32) (a4 : Int32) (a5 : Int32) (a6 : Int32) (a7 : Int32) (s0 : Int32), fX6_pour_182 k158 S a1 a2 a3 a4 a5 a6 a7 s0 = some o → GG K X 9 0 0 M (some S) 182 [(0, .ref (kh K)), (1, .int a1), (2, .int a2), (3, .int a3), (4, .int a4), (5, .int a5), (6, .int a6), (7, .int a7)] [.int s0] := by
  intro S a1 a2 a3 a4 a5 a6 a7 s0 hf
  unfold fX6_pour_182 at hf
  refine GG.istore C (lv' := [(8, .int s0), (0, .ref (kh K)), (1, .int a1), (2, .int a2), (3, .int a3), (4, .int a4), (5, .int a5), (6, .int a6), (7, .int a7)]) dX6_pour_182 (by decide) rfl ?_
  refine GG.aload_n C dX6_pour_184 1 rfl ?_
  refine GG.gm6 C rfl dX6_pour_185 ?_
  refine GG.bipush C dX6_pour_188 bp_60 ?_
  refine GG.iload_n C dX6_pour_190 4 rfl ?_
  refine GG.imul C dX6_pour_191 ?_
  refine GG.iload C dX6_pour_192 5 rfl ?_
  refine GG.iadd C dX6_pour_194 ?_
  refine GG.iload C dX6_pour_195 0 rfl ?_
  refine GG.iadd C dX6_pour_197 ?_
  refine GG.aload_n C dX6_pour_198 1 rfl ?_
  refine GG.gm6 C rfl dX6_pour_199 ?_
  refine GG.bipush C dX6_pour_202 bp_60 ?_
  refine GG.iload_n C dX6_pour_204 2 rfl ?_
  refine GG.imul C dX6_pour_205 ?_
  refine GG.iload_n C dX6_pour_206 3 rfl ?_
  refine GG.iadd C dX6_pour_207 ?_
  refine GG.iload C dX6_pour_208 0 rfl ?_
  refine GG.iadd C dX6_pour_210 ?_
  obtain ⟨v48, hv48, hf⟩ := obd_some hf
  refine GG.ml C hv48 dX6_pour_211 ?_
  obtain ⟨S49, hS49, hf⟩ := obd_some hf
  refine GG.mls C hS49 dX6_pour_212 ?_
  refine GG.iinc C (v := (a7 + (nI 1))) (lv' := [(7, .int (a7 + (nI 1))), (8, .int s0), (0, .ref (kh K)), (1, .int a1), (2, .int a2), (3, .int a3), (4, .int a4), (5, .int a5), (6, .int a6)]) dX6_pour_213 8 rfl (congrArg (a7 + ·) ic_1) (by decide) rfl ?_
  refine GG.goto C (tgt := 158) dX6_pour_216 (by decide) ?_
  refine GG.sub [2, 3, 4, 5, 6, 7, 8, 0] rfl ?_
  exact hk158 _ _ _ _ _ _ _ _ hf
theorem gX6_pour_158 {K : gK} {X : gX} {M : XS} (C : gC K X cX6_pour 9 yX6_pour (some Jvm.ClassFile.FieldType.boolean) rX6_pour)  {o : (Int32 × MS)} (E : gE K X (some (.int o.1)) M (some o.2) rX6_pour.cells rX6_pour.slots)   :
    ∀ (n : Nat) (S : MS) (a1 : Int32) (a2 : Int32) (a3 : Int32) (a4 : Int32) (a5 : Int32) (a6 : Int32) (a7 : Int32), fX6_pour_158  n S a1 a2 a3 a4 a5 a6 a7 = some o → GG K X 9 0 0 M (some S) 158 [(0, .ref (kh K)), (1, .int a1), (2, .int a2), (3, .int a3), (4, .int a4), (5, .int a5), (6, .int a6), (7, .int a7)] [] := by
  intro n
  induction n with
  | zero => intro S a1 a2 a3 a4 a5 a6 a7 hf; cases hf
  | succ n ih =>
    intro S a1 a2 a3 a4 a5 a6 a7 hf
    rw [fX6_pour_158] at hf
    refine GG.iload C dX6_pour_158 7 rfl ?_
    refine GG.iload C dX6_pour_160 5 rfl ?_
    refine GG.icmp_ge C (tgt := 219) dX6_pour_162 (by decide) (fun c46 => ?_) (fun c46 => ?_)
    · have hf := if_t hf c46
      refine GG.iconst C dX6_pour_219 ic_1 ?_
      have hf := Option.some.inj hf
      subst hf
      exact GG.zret C zb_1 E dX6_pour_220
    · have hf := if_f hf c46
      refine GG.iload C dX6_pour_165 6 rfl ?_
      refine GG.if_eq C (tgt := 180) dX6_pour_167 (by decide) (fun c47 => ?_) (fun c47 => ?_)
      · have hf := if_t hf c47
        refine GG.iload C dX6_pour_180 7 rfl ?_
        refine GG.sub [0, 1, 2, 3, 4, 5, 6, 7] rfl ?_
        exact gX6_pour_182 C E (hk158 := ih) _ _ _ _ _ _ _ _ _ hf
      · have hf := if_f hf c47
        refine GG.iload C dX6_pour_170 5 rfl ?_
        refine GG.iconst C dX6_pour_172 ic_1 ?_
        refine GG.isub C dX6_pour_173 ?_
        refine GG.iload C dX6_pour_174 7 rfl ?_
        refine GG.isub C dX6_pour_176 ?_
        refine GG.goto C (tgt := 182) dX6_pour_177 (by decide) ?_
        refine GG.sub [0, 1, 2, 3, 4, 5, 6, 7] rfl ?_
        exact gX6_pour_182 C E (hk158 := ih) _ _ _ _ _ _ _ _ _ hf
theorem gX6_pour {K : gK} {M : XS}  {S : MS} {a1 : Int32} {a2 : Int32} {a3 : Int32} {a4 : Int32} {a5 : Int32} {o : (Int32 × MS)} (hf : fX6_pour S a1 a2 a3 a4 a5 = some o) : gMet K yX6_pour cX6_pour 9 (some Jvm.ClassFile.FieldType.boolean) rX6_pour [(.ref (kh K)), (.int a1), (.int a2), (.int a3), (.int a4), (.int a5)] M (some S) (some (.int o.1)) M (some o.2) := by
  refine gMet.of pn_X6 (Nat.le_of_ble_eq_true rfl) fun X C E => ?_
  unfold fX6_pour at hf
  show GG K X 9 0 0 M (some S) 0 [(0, .ref (kh K)), (1, .int a1), (2, .int a2), (3, .int a3), (4, .int a4), (5, .int a5)] []
  refine GG.aload_n C dX6_pour_0 0 rfl ?_
  refine GG.iconst C dX6_pour_1 ic_0 ?_
  refine GG.pm1 C rfl dX6_pour_2 ?_
  refine GG.topS fun S1 hS1 => ?_
  have hf := ltb_s hS1 hf
  refine GG.aload_n C dX6_pour_5 0 rfl ?_
  refine GG.iconst C dX6_pour_6 ic_0 ?_
  refine GG.pm0 C rfl dX6_pour_7 ?_
  refine GG.topS fun S2 hS2 => ?_
  have hf := ltb_s hS2 hf
  refine GG.iload_n C dX6_pour_10 1 rfl ?_
  refine GG.if_lt C (tgt := 28) dX6_pour_11 (by decide) (fun c3 => ?_) (fun c3 => ?_)
  · have hf := if_t hf c3
    refine GG.aload_n C dX6_pour_28 0 rfl ?_
    refine GG.iconst C dX6_pour_29 ic_1 ?_
    obtain ⟨p4, hp4, hf⟩ := obd_some hf
    refine GG.c_X6_90 C rfl (gX6_no hp4) ⟨Nat.le_of_ble_eq_true rfl, Nat.le_of_ble_eq_true rfl⟩ ⟨Nat.le_of_ble_eq_true rfl, Nat.le_of_ble_eq_true rfl⟩ (Nat.le_of_ble_eq_true rfl) dX6_pour_30 ?_
    obtain ⟨c5, hf⟩ := gd_some hf
    have hf := Option.some.inj hf
    subst hf
    exact GG.zret C c5 E dX6_pour_33
  · have hf := if_f hf c3
    refine GG.iload_n C dX6_pour_14 1 rfl ?_
    refine GG.iconst C dX6_pour_15 ic_4 ?_
    refine GG.icmp_ge C (tgt := 28) dX6_pour_16 (by decide) (fun c6 => ?_) (fun c6 => ?_)
    · have hf := if_t hf c6
      refine GG.aload_n C dX6_pour_28 0 rfl ?_
      refine GG.iconst C dX6_pour_29 ic_1 ?_
      obtain ⟨p7, hp7, hf⟩ := obd_some hf
      refine GG.c_X6_90 C rfl (gX6_no hp7) ⟨Nat.le_of_ble_eq_true rfl, Nat.le_of_ble_eq_true rfl⟩ ⟨Nat.le_of_ble_eq_true rfl, Nat.le_of_ble_eq_true rfl⟩ (Nat.le_of_ble_eq_true rfl) dX6_pour_30 ?_
      obtain ⟨c8, hf⟩ := gd_some hf
      have hf := Option.some.inj hf
      subst hf
      exact GG.zret C c8 E dX6_pour_33
    · have hf := if_f hf c6
      refine GG.iload_n C dX6_pour_19 3 rfl ?_
      refine GG.if_lt C (tgt := 28) dX6_pour_20 (by decide) (fun c9 => ?_) (fun c9 => ?_)
      · have hf := if_t hf c9
        refine GG.aload_n C dX6_pour_28 0 rfl ?_
        refine GG.iconst C dX6_pour_29 ic_1 ?_
        obtain ⟨p10, hp10, hf⟩ := obd_some hf
        refine GG.c_X6_90 C rfl (gX6_no hp10) ⟨Nat.le_of_ble_eq_true rfl, Nat.le_of_ble_eq_true rfl⟩ ⟨Nat.le_of_ble_eq_true rfl, Nat.le_of_ble_eq_true rfl⟩ (Nat.le_of_ble_eq_true rfl) dX6_pour_30 ?_
        obtain ⟨c11, hf⟩ := gd_some hf
        have hf := Option.some.inj hf
        subst hf
        exact GG.zret C c11 E dX6_pour_33
      · have hf := if_f hf c9
        refine GG.iload_n C dX6_pour_23 3 rfl ?_
        refine GG.iconst C dX6_pour_24 ic_4 ?_
        refine GG.icmp_lt C (tgt := 34) dX6_pour_25 (by decide) (fun c12 => ?_) (fun c12 => ?_)
        · have hf := if_t hf c12
          refine GG.aload_n C dX6_pour_34 0 rfl ?_
          refine GG.gm5 C rfl dX6_pour_35 ?_
          refine GG.iload_n C dX6_pour_38 1 rfl ?_
          obtain ⟨v13, hv13, hf⟩ := obd_some hf
          refine GG.mi C rfl hv13 dX6_pour_39 ?_
          refine GG.if_lt C (tgt := 52) dX6_pour_40 (by decide) (fun c14 => ?_) (fun c14 => ?_)
          · have hf := if_t hf c14
            refine GG.aload_n C dX6_pour_52 0 rfl ?_
            refine GG.iconst C dX6_pour_53 ic_3 ?_
            obtain ⟨p15, hp15, hf⟩ := obd_some hf
            refine GG.c_X6_90 C rfl (gX6_no hp15) ⟨Nat.le_of_ble_eq_true rfl, Nat.le_of_ble_eq_true rfl⟩ ⟨Nat.le_of_ble_eq_true rfl, Nat.le_of_ble_eq_true rfl⟩ (Nat.le_of_ble_eq_true rfl) dX6_pour_54 ?_
            obtain ⟨c16, hf⟩ := gd_some hf
            have hf := Option.some.inj hf
            subst hf
            exact GG.zret C c16 E dX6_pour_57
          · have hf := if_f hf c14
            refine GG.aload_n C dX6_pour_43 0 rfl ?_
            refine GG.gm5 C rfl dX6_pour_44 ?_
            refine GG.iload_n C dX6_pour_47 3 rfl ?_
            obtain ⟨v17, hv17, hf⟩ := obd_some hf
            refine GG.mi C rfl hv17 dX6_pour_48 ?_
            refine GG.if_ge C (tgt := 58) dX6_pour_49 (by decide) (fun c18 => ?_) (fun c18 => ?_)
            · have hf := if_t hf c18
              refine GG.aload_n C dX6_pour_58 0 rfl ?_
              refine GG.gm4 C rfl dX6_pour_59 ?_
              refine GG.iload_n C dX6_pour_62 1 rfl ?_
              obtain ⟨v19, hv19, hf⟩ := obd_some hf
              refine GG.mi C rfl hv19 dX6_pour_63 ?_
              refine GG.aload_n C dX6_pour_64 0 rfl ?_
              refine GG.gm4 C rfl dX6_pour_65 ?_
              refine GG.iload_n C dX6_pour_68 3 rfl ?_
              obtain ⟨v20, hv20, hf⟩ := obd_some hf
              refine GG.mi C rfl hv20 dX6_pour_69 ?_
              refine GG.icmp_eq C (tgt := 80) dX6_pour_70 (by decide) (fun c21 => ?_) (fun c21 => ?_)
              · have hf := if_t hf c21
                refine GG.iload C dX6_pour_80 5 rfl ?_
                refine GG.if_ge C (tgt := 92) dX6_pour_82 (by decide) (fun c22 => ?_) (fun c22 => ?_)
                · have hf := if_t hf c22
                  refine GG.iload_n C dX6_pour_92 2 rfl ?_
                  refine GG.if_lt C (tgt := 136) dX6_pour_93 (by decide) (fun c23 => ?_) (fun c23 => ?_)
                  · have hf := if_t hf c23
                    refine GG.aload_n C dX6_pour_136 0 rfl ?_
                    refine GG.iconst C dX6_pour_137 ic_4 ?_
                    obtain ⟨p24, hp24, hf⟩ := obd_some hf
                    refine GG.c_X6_90 C rfl (gX6_no hp24) ⟨Nat.le_of_ble_eq_true rfl, Nat.le_of_ble_eq_true rfl⟩ ⟨Nat.le_of_ble_eq_true rfl, Nat.le_of_ble_eq_true rfl⟩ (Nat.le_of_ble_eq_true rfl) dX6_pour_138 ?_
                    obtain ⟨c25, hf⟩ := gd_some hf
                    have hf := Option.some.inj hf
                    subst hf
                    exact GG.zret C c25 E dX6_pour_141
                  · have hf := if_f hf c23
                    refine GG.iload C dX6_pour_96 4 rfl ?_
                    refine GG.if_lt C (tgt := 136) dX6_pour_98 (by decide) (fun c26 => ?_) (fun c26 => ?_)
                    · have hf := if_t hf c26
                      refine GG.aload_n C dX6_pour_136 0 rfl ?_
                      refine GG.iconst C dX6_pour_137 ic_4 ?_
                      obtain ⟨p27, hp27, hf⟩ := obd_some hf
                      refine GG.c_X6_90 C rfl (gX6_no hp27) ⟨Nat.le_of_ble_eq_true rfl, Nat.le_of_ble_eq_true rfl⟩ ⟨Nat.le_of_ble_eq_true rfl, Nat.le_of_ble_eq_true rfl⟩ (Nat.le_of_ble_eq_true rfl) dX6_pour_138 ?_
                      obtain ⟨c28, hf⟩ := gd_some hf
                      have hf := Option.some.inj hf
                      subst hf
                      exact GG.zret C c28 E dX6_pour_141
                    · have hf := if_f hf c26
                      refine GG.iload_n C dX6_pour_101 2 rfl ?_
                      refine GG.i2l C dX6_pour_102 ?_
                      refine GG.iload C dX6_pour_103 5 rfl ?_
                      refine GG.i2l C dX6_pour_105 ?_
                      refine GG.ladd C dX6_pour_106 ?_
                      refine GG.aload_n C dX6_pour_107 0 rfl ?_
                      refine GG.gm5 C rfl dX6_pour_108 ?_
                      refine GG.iload_n C dX6_pour_111 1 rfl ?_
                      obtain ⟨v29, hv29, hf⟩ := obd_some hf
                      refine GG.mi C rfl hv29 dX6_pour_112 ?_
                      refine GG.i2l C dX6_pour_113 ?_
                      refine GG.lcmp C dX6_pour_114 ?_
                      refine GG.if_gt C (tgt := 136) dX6_pour_115 (by decide) (fun c30 => ?_) (fun c30 => ?_)
                      · have hf := if_t hf c30
                        refine GG.aload_n C dX6_pour_136 0 rfl ?_
                        refine GG.iconst C dX6_pour_137 ic_4 ?_
                        obtain ⟨p31, hp31, hf⟩ := obd_some hf
                        refine GG.c_X6_90 C rfl (gX6_no hp31) ⟨Nat.le_of_ble_eq_true rfl, Nat.le_of_ble_eq_true rfl⟩ ⟨Nat.le_of_ble_eq_true rfl, Nat.le_of_ble_eq_true rfl⟩ (Nat.le_of_ble_eq_true rfl) dX6_pour_138 ?_
                        obtain ⟨c32, hf⟩ := gd_some hf
                        have hf := Option.some.inj hf
                        subst hf
                        exact GG.zret C c32 E dX6_pour_141
                      · have hf := if_f hf c30
                        refine GG.iload C dX6_pour_118 4 rfl ?_
                        refine GG.i2l C dX6_pour_120 ?_
                        refine GG.iload C dX6_pour_121 5 rfl ?_
                        refine GG.i2l C dX6_pour_123 ?_
                        refine GG.ladd C dX6_pour_124 ?_
                        refine GG.aload_n C dX6_pour_125 0 rfl ?_
                        refine GG.gm5 C rfl dX6_pour_126 ?_
                        refine GG.iload_n C dX6_pour_129 3 rfl ?_
                        obtain ⟨v33, hv33, hf⟩ := obd_some hf
                        refine GG.mi C rfl hv33 dX6_pour_130 ?_
                        refine GG.i2l C dX6_pour_131 ?_
                        refine GG.lcmp C dX6_pour_132 ?_
                        refine GG.if_le C (tgt := 142) dX6_pour_133 (by decide) (fun c34 => ?_) (fun c34 => ?_)
                        · have hf := if_t hf c34
                          refine GG.iload_n C dX6_pour_142 2 rfl ?_
                          refine GG.iload C dX6_pour_143 4 rfl ?_
                          refine GG.icmp_ge C (tgt := 152) dX6_pour_145 (by decide) (fun c35 => ?_) (fun c35 => ?_)
                          · have hf := if_t hf c35
                            refine GG.iconst C dX6_pour_152 ic_0 ?_
                            refine GG.istore C (lv' := [(6, .int (nI 0)), (0, .ref (kh K)), (1, .int a1), (2, .int a2), (3, .int a3), (4, .int a4), (5, .int a5)]) dX6_pour_153 (by decide) rfl ?_
                            refine GG.iconst C dX6_pour_155 ic_0 ?_
                            refine GG.istore C (lv' := [(7, .int (nI 0)), (6, .int (nI 0)), (0, .ref (kh K)), (1, .int a1), (2, .int a2), (3, .int a3), (4, .int a4), (5, .int a5)]) dX6_pour_156 (by decide) rfl ?_
                            refine GG.sub [2, 3, 4, 5, 6, 7, 1, 0] rfl ?_
                            exact gX6_pour_158 C E  FU _ _ _ _ _ _ _ _ hf
                          · have hf := if_f hf c35
                            refine GG.iconst C dX6_pour_148 ic_1 ?_
                            refine GG.goto C (tgt := 153) dX6_pour_149 (by decide) ?_
                            refine GG.istore C (lv' := [(6, .int (nI 1)), (0, .ref (kh K)), (1, .int a1), (2, .int a2), (3, .int a3), (4, .int a4), (5, .int a5)]) dX6_pour_153 (by decide) rfl ?_
                            refine GG.iconst C dX6_pour_155 ic_0 ?_
                            refine GG.istore C (lv' := [(7, .int (nI 0)), (6, .int (nI 1)), (0, .ref (kh K)), (1, .int a1), (2, .int a2), (3, .int a3), (4, .int a4), (5, .int a5)]) dX6_pour_156 (by decide) rfl ?_
                            refine GG.sub [2, 3, 4, 5, 6, 7, 1, 0] rfl ?_
                            exact gX6_pour_158 C E  FU _ _ _ _ _ _ _ _ hf
                        · have hf := if_f hf c34
                          refine GG.aload_n C dX6_pour_136 0 rfl ?_
                          refine GG.iconst C dX6_pour_137 ic_4 ?_
                          obtain ⟨p36, hp36, hf⟩ := obd_some hf
                          refine GG.c_X6_90 C rfl (gX6_no hp36) ⟨Nat.le_of_ble_eq_true rfl, Nat.le_of_ble_eq_true rfl⟩ ⟨Nat.le_of_ble_eq_true rfl, Nat.le_of_ble_eq_true rfl⟩ (Nat.le_of_ble_eq_true rfl) dX6_pour_138 ?_
                          obtain ⟨c37, hf⟩ := gd_some hf
                          have hf := Option.some.inj hf
                          subst hf
                          exact GG.zret C c37 E dX6_pour_141
                · have hf := if_f hf c22
                  refine GG.aload_n C dX6_pour_85 0 rfl ?_
                  refine GG.bipush C dX6_pour_86 bp_6 ?_
                  obtain ⟨p38, hp38, hf⟩ := obd_some hf
                  refine GG.c_X6_90 C rfl (gX6_no hp38) ⟨Nat.le_of_ble_eq_true rfl, Nat.le_of_ble_eq_true rfl⟩ ⟨Nat.le_of_ble_eq_true rfl, Nat.le_of_ble_eq_true rfl⟩ (Nat.le_of_ble_eq_true rfl) dX6_pour_88 ?_
                  obtain ⟨c39, hf⟩ := gd_some hf
                  have hf := Option.some.inj hf
                  subst hf
                  exact GG.zret C c39 E dX6_pour_91
              · have hf := if_f hf c21
                refine GG.aload_n C dX6_pour_73 0 rfl ?_
                refine GG.bipush C dX6_pour_74 bp_11 ?_
                obtain ⟨p40, hp40, hf⟩ := obd_some hf
                refine GG.c_X6_90 C rfl (gX6_no hp40) ⟨Nat.le_of_ble_eq_true rfl, Nat.le_of_ble_eq_true rfl⟩ ⟨Nat.le_of_ble_eq_true rfl, Nat.le_of_ble_eq_true rfl⟩ (Nat.le_of_ble_eq_true rfl) dX6_pour_76 ?_
                obtain ⟨c41, hf⟩ := gd_some hf
                have hf := Option.some.inj hf
                subst hf
                exact GG.zret C c41 E dX6_pour_79
            · have hf := if_f hf c18
              refine GG.aload_n C dX6_pour_52 0 rfl ?_
              refine GG.iconst C dX6_pour_53 ic_3 ?_
              obtain ⟨p42, hp42, hf⟩ := obd_some hf
              refine GG.c_X6_90 C rfl (gX6_no hp42) ⟨Nat.le_of_ble_eq_true rfl, Nat.le_of_ble_eq_true rfl⟩ ⟨Nat.le_of_ble_eq_true rfl, Nat.le_of_ble_eq_true rfl⟩ (Nat.le_of_ble_eq_true rfl) dX6_pour_54 ?_
              obtain ⟨c43, hf⟩ := gd_some hf
              have hf := Option.some.inj hf
              subst hf
              exact GG.zret C c43 E dX6_pour_57
        · have hf := if_f hf c12
          refine GG.aload_n C dX6_pour_28 0 rfl ?_
          refine GG.iconst C dX6_pour_29 ic_1 ?_
          obtain ⟨p44, hp44, hf⟩ := obd_some hf
          refine GG.c_X6_90 C rfl (gX6_no hp44) ⟨Nat.le_of_ble_eq_true rfl, Nat.le_of_ble_eq_true rfl⟩ ⟨Nat.le_of_ble_eq_true rfl, Nat.le_of_ble_eq_true rfl⟩ (Nat.le_of_ble_eq_true rfl) dX6_pour_30 ?_
          obtain ⟨c45, hf⟩ := gd_some hf
          have hf := Option.some.inj hf
          subst hf
          exact GG.zret C c45 E dX6_pour_33
theorem gX6_lay_2 {K : gK} {X : gX} {M : XS} (C : gC K X cX6_lay 3 yX6_lay none rX6_lay)  {o : MS} (E : gE K X none M (some o) rX6_lay.cells rX6_lay.slots)   :
    ∀ (n : Nat) (S : MS) (a1 : Int32) (a2 : Int32), fX6_lay_2  n S a1 a2 = some o → GG K X 3 0 0 M (some S) 2 [(0, .ref (kh K)), (1, .int a1), (2, .int a2)] [] := by
  intro n
  induction n with
  | zero => intro S a1 a2 hf; cases hf
  | succ n ih =>
    intro S a1 a2 hf
    rw [fX6_lay_2] at hf
    refine GG.iload_n C dX6_lay_2 2 rfl ?_
    refine GG.if_lt C (tgt := 38) dX6_lay_3 (by decide) (fun c1 => ?_) (fun c1 => ?_)
    · have hf := if_t hf c1
      have hf := Option.some.inj hf
      subst hf
      exact GG.vret C E dX6_lay_38
    · have hf := if_f hf c1
      refine GG.aload_n C dX6_lay_6 0 rfl ?_
      refine GG.gm7 C rfl dX6_lay_7 ?_
      refine GG.aload_n C dX6_lay_10 0 rfl ?_
      refine GG.gm8 C rfl dX6_lay_11 ?_
      refine GG.iload_n C dX6_lay_14 1 rfl ?_
      refine GG.bipush C dX6_lay_15 bp_8 ?_
      refine GG.iload_n C dX6_lay_17 2 rfl ?_
      refine GG.imul C dX6_lay_18 ?_
      refine GG.ishr C dX6_lay_19 ?_
      refine GG.i2b C dX6_lay_20 ?_
      obtain ⟨S2, hS2, hf⟩ := obd_some hf
      refine GG.mbs C rfl hS2 dX6_lay_21 ?_
      refine GG.aload_n C dX6_lay_22 0 rfl ?_
      refine GG.dup C dX6_lay_23 rfl ?_
      refine GG.gm8 C rfl dX6_lay_24 ?_
      refine GG.iconst C dX6_lay_27 ic_1 ?_
      refine GG.iadd C dX6_lay_28 ?_
      refine GG.pm8 C rfl dX6_lay_29 ?_
      refine GG.topS fun S3 hS3 => ?_
      have hf := ltb_s hS3 hf
      refine GG.iinc C (v := (a2 + (-1 : Int32))) (lv' := [(2, .int (a2 + (-1 : Int32))), (0, .ref (kh K)), (1, .int a1)]) dX6_lay_32 2 rfl (congrArg (a2 + ·) ic_m1) (by decide) rfl ?_
      refine GG.goto C (tgt := 2) dX6_lay_35 (by decide) ?_
      refine GG.sub [1, 2, 0] rfl ?_
      exact ih _ _ _ hf
theorem gX6_lay {K : gK} {M : XS}  {S : MS} {a1 : Int32} {o : MS} (hf : fX6_lay S a1 = some o) : gMet K yX6_lay cX6_lay 3 none rX6_lay [(.ref (kh K)), (.int a1)] M (some S) none M (some o) := by
  refine gMet.of pn_X6 (Nat.le_of_ble_eq_true rfl) fun X C E => ?_
  unfold fX6_lay at hf
  show GG K X 3 0 0 M (some S) 0 [(0, .ref (kh K)), (1, .int a1)] []
  refine GG.iconst C dX6_lay_0 ic_3 ?_
  refine GG.istore_n C (lv' := [(2, .int (nI 3)), (0, .ref (kh K)), (1, .int a1)]) dX6_lay_1 (by decide) rfl ?_
  refine GG.sub [1, 2, 0] rfl ?_
  exact gX6_lay_2 C E  FU _ _ _ hf
theorem gX6_feed {K : gK} {M : XS}  {S : MS} {a1 : Int32} {a2 : Int32} {a3 : Int32} {a4 : Int32} {a5 : Int32} {o : (Int32 × MS)} (hf : fX6_feed S a1 a2 a3 a4 a5 = some o) : gMet K yX6_feed cX6_feed 6 (some Jvm.ClassFile.FieldType.int) rX6_feed [(.ref (kh K)), (.int a1), (.int a2), (.int a3), (.int a4), (.int a5)] M (some S) (some (.int o.1)) M (some o.2) := by
  refine gMet.of pn_X6 (Nat.le_of_ble_eq_true rfl) fun X C E => ?_
  unfold fX6_feed at hf
  show GG K X 6 0 0 M (some S) 0 [(0, .ref (kh K)), (1, .int a1), (2, .int a2), (3, .int a3), (4, .int a4), (5, .int a5)] []
  refine GG.aload_n C dX6_feed_0 0 rfl ?_
  refine GG.iconst C dX6_feed_1 ic_0 ?_
  refine GG.pm1 C rfl dX6_feed_2 ?_
  refine GG.topS fun S1 hS1 => ?_
  have hf := ltb_s hS1 hf
  refine GG.aload_n C dX6_feed_5 0 rfl ?_
  refine GG.gm8 C rfl dX6_feed_6 ?_
  refine GG.bipush C dX6_feed_9 bp_20 ?_
  refine GG.iadd C dX6_feed_11 ?_
  refine GG.sipush C dX6_feed_12 sp_900 ?_
  refine GG.icmp_le C (tgt := 20) dX6_feed_15 (by decide) (fun c2 => ?_) (fun c2 => ?_)
  · have hf := if_t hf c2
    refine GG.aload_n C dX6_feed_20 0 rfl ?_
    refine GG.iload_n C dX6_feed_21 1 rfl ?_
    obtain ⟨p3, hp3, hf⟩ := obd_some hf
    refine GG.c_X6_228 C rfl (gX6_lay hp3) ⟨Nat.le_of_ble_eq_true rfl, Nat.le_of_ble_eq_true rfl⟩ ⟨Nat.le_of_ble_eq_true rfl, Nat.le_of_ble_eq_true rfl⟩ (Nat.le_of_ble_eq_true rfl) dX6_feed_22 ?_
    refine GG.aload_n C dX6_feed_25 0 rfl ?_
    refine GG.iload_n C dX6_feed_26 2 rfl ?_
    obtain ⟨p4, hp4, hf⟩ := obd_some hf
    refine GG.c_X6_228 C rfl (gX6_lay hp4) ⟨Nat.le_of_ble_eq_true rfl, Nat.le_of_ble_eq_true rfl⟩ ⟨Nat.le_of_ble_eq_true rfl, Nat.le_of_ble_eq_true rfl⟩ (Nat.le_of_ble_eq_true rfl) dX6_feed_27 ?_
    refine GG.aload_n C dX6_feed_30 0 rfl ?_
    refine GG.iload_n C dX6_feed_31 3 rfl ?_
    obtain ⟨p5, hp5, hf⟩ := obd_some hf
    refine GG.c_X6_228 C rfl (gX6_lay hp5) ⟨Nat.le_of_ble_eq_true rfl, Nat.le_of_ble_eq_true rfl⟩ ⟨Nat.le_of_ble_eq_true rfl, Nat.le_of_ble_eq_true rfl⟩ (Nat.le_of_ble_eq_true rfl) dX6_feed_32 ?_
    refine GG.aload_n C dX6_feed_35 0 rfl ?_
    refine GG.iload C dX6_feed_36 4 rfl ?_
    obtain ⟨p6, hp6, hf⟩ := obd_some hf
    refine GG.c_X6_228 C rfl (gX6_lay hp6) ⟨Nat.le_of_ble_eq_true rfl, Nat.le_of_ble_eq_true rfl⟩ ⟨Nat.le_of_ble_eq_true rfl, Nat.le_of_ble_eq_true rfl⟩ (Nat.le_of_ble_eq_true rfl) dX6_feed_38 ?_
    refine GG.aload_n C dX6_feed_41 0 rfl ?_
    refine GG.iload C dX6_feed_42 5 rfl ?_
    obtain ⟨p7, hp7, hf⟩ := obd_some hf
    refine GG.c_X6_228 C rfl (gX6_lay hp7) ⟨Nat.le_of_ble_eq_true rfl, Nat.le_of_ble_eq_true rfl⟩ ⟨Nat.le_of_ble_eq_true rfl, Nat.le_of_ble_eq_true rfl⟩ (Nat.le_of_ble_eq_true rfl) dX6_feed_44 ?_
    refine GG.aload_n C dX6_feed_47 0 rfl ?_
    refine GG.gm8 C rfl dX6_feed_48 ?_
    have hf := Option.some.inj hf
    subst hf
    exact GG.iret C E dX6_feed_51
  · have hf := if_f hf c2
    refine GG.iconst C dX6_feed_18 ic_m1 ?_
    have hf := Option.some.inj hf
    subst hf
    exact GG.iret C E dX6_feed_19
theorem gX6_fault {K : gK} {M : XS}  {S : MS} {a1 : Int32} {o : (Int32 × MS)} (hf : fX6_fault S a1 = some o) : gMet K yX6_fault cX6_fault 2 (some Jvm.ClassFile.FieldType.int) rX6_fault [(.ref (kh K)), (.int a1)] M (some S) (some (.int o.1)) M (some o.2) := by
  refine gMet.of pn_X6 (Nat.le_of_ble_eq_true rfl) fun X C E => ?_
  unfold fX6_fault at hf
  show GG K X 2 0 0 M (some S) 0 [(0, .ref (kh K)), (1, .int a1)] []
  refine GG.aload_n C dX6_fault_0 0 rfl ?_
  refine GG.iconst C dX6_fault_1 ic_0 ?_
  refine GG.pm1 C rfl dX6_fault_2 ?_
  refine GG.topS fun S1 hS1 => ?_
  have hf := ltb_s hS1 hf
  refine GG.iload_n C dX6_fault_5 1 rfl ?_
  refine GG.if_ne C (tgt := 16) dX6_fault_6 (by decide) (fun c2 => ?_) (fun c2 => ?_)
  · have hf := if_f hf c2
    refine GG.iload_n C dX6_fault_16 1 rfl ?_
    refine GG.iconst C dX6_fault_17 ic_1 ?_
    refine GG.icmp_ne C (tgt := 28) dX6_fault_18 (by decide) (fun c3 => ?_) (fun c3 => ?_)
    · have hf := if_f hf c3
      refine GG.iconst C dX6_fault_28 ic_m1 ?_
      have hf := Option.some.inj hf
      subst hf
      exact GG.iret C E dX6_fault_29
    · have hf := if_t hf c3
      refine GG.aload_n C dX6_fault_21 0 rfl ?_
      refine GG.gm11 C rfl dX6_fault_22 ?_
      refine GG.goto C (tgt := 29) dX6_fault_25 (by decide) ?_
      have hf := Option.some.inj hf
      subst hf
      exact GG.iret C E dX6_fault_29
  · have hf := if_t hf c2
    refine GG.aload_n C dX6_fault_9 0 rfl ?_
    refine GG.gm10 C rfl dX6_fault_10 ?_
    refine GG.goto C (tgt := 29) dX6_fault_13 (by decide) ?_
    have hf := Option.some.inj hf
    subst hf
    exact GG.iret C E dX6_fault_29
theorem gX6_look2 {K : gK} {M : XS}  {S : MS} {a1 : Int32} {o : Int32} (hf : fX6_look2 S a1 = some o) : gMet K yX6_look2 cX6_look2 2 (some Jvm.ClassFile.FieldType.int) rX6_look2 [(.ref (kh K)), (.int a1)] M (some S) (some (.int o)) M (some S) := by
  refine gMet.of pn_X6 (Nat.le_of_ble_eq_true rfl) fun X C E => ?_
  unfold fX6_look2 at hf
  show GG K X 2 0 0 M (some S) 0 [(0, .ref (kh K)), (1, .int a1)] []
  refine GG.iload_n C dX6_look2_0 1 rfl ?_
  refine GG.aload_n C dX6_look2_1 0 rfl ?_
  refine GG.gm9 C rfl dX6_look2_2 ?_
  refine GG.icmp_ge C (tgt := 21) dX6_look2_5 (by decide) (fun c1 => ?_) (fun c1 => ?_)
  · have hf := if_t hf c1
    refine GG.iconst C dX6_look2_21 ic_0 ?_
    have hf := Option.some.inj hf
    subst hf
    exact GG.iret C E dX6_look2_22
  · have hf := if_f hf c1
    refine GG.aload_n C dX6_look2_8 0 rfl ?_
    refine GG.gm7 C rfl dX6_look2_9 ?_
    refine GG.iload_n C dX6_look2_12 1 rfl ?_
    obtain ⟨v2, hv2, hf⟩ := obd_some hf
    refine GG.mb C rfl hv2 dX6_look2_13 ?_
    refine GG.sipush C dX6_look2_14 sp_255 ?_
    refine GG.iand C dX6_look2_17 ?_
    refine GG.goto C (tgt := 22) dX6_look2_18 (by decide) ?_
    have hf := Option.some.inj hf
    subst hf
    exact GG.iret C E dX6_look2_22
theorem gX6_isLetter {K : gK} {M : XS} {S : Option MS}  {a0 : Int32} {o : Int32} (hf : fX6_isLetter a0 = some o) : gMet K yX6_isLetter cX6_isLetter 1 (some Jvm.ClassFile.FieldType.boolean) rX6_isLetter [(.int a0)] M S (some (.int o)) M S := by
  refine gMet.of pn_X6 (Nat.le_of_ble_eq_true rfl) fun X C E => ?_
  unfold fX6_isLetter at hf
  show GG K X 1 0 0 M S 0 [(0, .int a0)] []
  refine GG.iload_n C dX6_isLetter_0 0 rfl ?_
  refine GG.bipush C dX6_isLetter_1 bp_97 ?_
  refine GG.icmp_lt C (tgt := 16) dX6_isLetter_3 (by decide) (fun c1 => ?_) (fun c1 => ?_)
  · have hf := if_t hf c1
    refine GG.iconst C dX6_isLetter_16 ic_0 ?_
    have hf := Option.some.inj hf
    subst hf
    exact GG.zret C zb_0 E dX6_isLetter_17
  · have hf := if_f hf c1
    refine GG.iload_n C dX6_isLetter_6 0 rfl ?_
    refine GG.bipush C dX6_isLetter_7 bp_122 ?_
    refine GG.icmp_gt C (tgt := 16) dX6_isLetter_9 (by decide) (fun c2 => ?_) (fun c2 => ?_)
    · have hf := if_t hf c2
      refine GG.iconst C dX6_isLetter_16 ic_0 ?_
      have hf := Option.some.inj hf
      subst hf
      exact GG.zret C zb_0 E dX6_isLetter_17
    · have hf := if_f hf c2
      refine GG.iconst C dX6_isLetter_12 ic_1 ?_
      refine GG.goto C (tgt := 17) dX6_isLetter_13 (by decide) ?_
      have hf := Option.some.inj hf
      subst hf
      exact GG.zret C zb_1 E dX6_isLetter_17
theorem gX6_isDigit {K : gK} {M : XS} {S : Option MS}  {a0 : Int32} {o : Int32} (hf : fX6_isDigit a0 = some o) : gMet K yX6_isDigit cX6_isDigit 1 (some Jvm.ClassFile.FieldType.boolean) rX6_isDigit [(.int a0)] M S (some (.int o)) M S := by
  refine gMet.of pn_X6 (Nat.le_of_ble_eq_true rfl) fun X C E => ?_
  unfold fX6_isDigit at hf
  show GG K X 1 0 0 M S 0 [(0, .int a0)] []
  refine GG.iload_n C dX6_isDigit_0 0 rfl ?_
  refine GG.bipush C dX6_isDigit_1 bp_48 ?_
  refine GG.icmp_lt C (tgt := 16) dX6_isDigit_3 (by decide) (fun c1 => ?_) (fun c1 => ?_)
  · have hf := if_t hf c1
    refine GG.iconst C dX6_isDigit_16 ic_0 ?_
    have hf := Option.some.inj hf
    subst hf
    exact GG.zret C zb_0 E dX6_isDigit_17
  · have hf := if_f hf c1
    refine GG.iload_n C dX6_isDigit_6 0 rfl ?_
    refine GG.bipush C dX6_isDigit_7 bp_57 ?_
    refine GG.icmp_gt C (tgt := 16) dX6_isDigit_9 (by decide) (fun c2 => ?_) (fun c2 => ?_)
    · have hf := if_t hf c2
      refine GG.iconst C dX6_isDigit_16 ic_0 ?_
      have hf := Option.some.inj hf
      subst hf
      exact GG.zret C zb_0 E dX6_isDigit_17
    · have hf := if_f hf c2
      refine GG.iconst C dX6_isDigit_12 ic_1 ?_
      refine GG.goto C (tgt := 17) dX6_isDigit_13 (by decide) ?_
      have hf := Option.some.inj hf
      subst hf
      exact GG.zret C zb_1 E dX6_isDigit_17
theorem gX6_next_109 {K : gK} {X : gX} {M : XS} (C : gC K X cX6_next 2 yX6_next none rX6_next)  {o : MS} (E : gE K X none M (some o) rX6_next.cells rX6_next.slots)   :
    ∀ (n : Nat) (S : MS), fX6_next_109  n S = some o → GG K X 2 0 0 M (some S) 109 [(0, .ref (kh K))] [] := by
  intro n
  induction n with
  | zero => intro S hf; cases hf
  | succ n ih =>
    intro S hf
    rw [fX6_next_109] at hf
    refine GG.aload_n C dX6_next_109 0 rfl ?_
    refine GG.aload_n C dX6_next_110 0 rfl ?_
    refine GG.gm16 C rfl dX6_next_111 ?_
    obtain ⟨v24, hv24, hf⟩ := obd_some hf
    refine GG.c_X6_123 C rfl (gX6_look2 hv24) ⟨Nat.le_of_ble_eq_true rfl, Nat.le_of_ble_eq_true rfl⟩ ⟨Nat.le_of_ble_eq_true rfl, Nat.le_of_ble_eq_true rfl⟩ (Nat.le_of_ble_eq_true rfl) dX6_next_114 ?_
    obtain ⟨v25, hv25, hf⟩ := obd_some hf
    refine GG.c_X6_129 C rfl (gX6_isLetter hv25) ⟨Nat.le_of_ble_eq_true rfl, Nat.le_of_ble_eq_true rfl⟩ ⟨Nat.le_of_ble_eq_true rfl, Nat.le_of_ble_eq_true rfl⟩ (Nat.le_of_ble_eq_true rfl) dX6_next_117 ?_
    refine GG.if_eq C (tgt := 182) dX6_next_120 (by decide) (fun c26 => ?_) (fun c26 => ?_)
    · have hf := if_t hf c26
      refine GG.aload_n C dX6_next_182 0 rfl ?_
      refine GG.aload_n C dX6_next_183 0 rfl ?_
      refine GG.gm16 C rfl dX6_next_184 ?_
      refine GG.aload_n C dX6_next_187 0 rfl ?_
      refine GG.gm15 C rfl dX6_next_188 ?_
      refine GG.isub C dX6_next_191 ?_
      refine GG.pm18 C rfl dX6_next_192 ?_
      refine GG.topS fun S27 hS27 => ?_
      have hf := ltb_s hS27 hf
      refine GG.goto C (tgt := 323) dX6_next_195 (by decide) ?_
      have hf := Option.some.inj hf
      subst hf
      exact GG.vret C E dX6_next_323
    · have hf := if_f hf c26
      refine GG.aload_n C dX6_next_123 0 rfl ?_
      refine GG.aload_n C dX6_next_124 0 rfl ?_
      refine GG.gm16 C rfl dX6_next_125 ?_
      refine GG.aload_n C dX6_next_128 0 rfl ?_
      refine GG.gm15 C rfl dX6_next_129 ?_
      refine GG.isub C dX6_next_132 ?_
      refine GG.bipush C dX6_next_133 bp_8 ?_
      refine GG.icmp_ge C (tgt := 163) dX6_next_135 (by decide) (fun c28 => ?_) (fun c28 => ?_)
      · have hf := if_t hf c28
        refine GG.ldc2 C (v := (-1 : Int64)) q1638 dX6_next_163 ?_
        refine GG.pm19 C rfl dX6_next_166 ?_
        refine GG.topS fun S29 hS29 => ?_
        have hf := ltb_s hS29 hf
        refine GG.aload_n C dX6_next_169 0 rfl ?_
        refine GG.dup C dX6_next_170 rfl ?_
        refine GG.gm16 C rfl dX6_next_171 ?_
        refine GG.iconst C dX6_next_174 ic_1 ?_
        refine GG.iadd C dX6_next_175 ?_
        refine GG.pm16 C rfl dX6_next_176 ?_
        refine GG.topS fun S30 hS30 => ?_
        have hf := ltb_s hS30 hf
        refine GG.goto C (tgt := 109) dX6_next_179 (by decide) ?_
        refine GG.sub [0] rfl ?_
        exact ih _ hf
      · have hf := if_f hf c28
        refine GG.aload_n C dX6_next_138 0 rfl ?_
        refine GG.gm19 C rfl dX6_next_139 ?_
        refine GG.ldc2 C (v := (lN 32)) q1674 dX6_next_142 ?_
        refine GG.lmul C dX6_next_145 ?_
        refine GG.aload_n C dX6_next_146 0 rfl ?_
        refine GG.aload_n C dX6_next_147 0 rfl ?_
        refine GG.gm16 C rfl dX6_next_148 ?_
        obtain ⟨v31, hv31, hf⟩ := obd_some hf
        refine GG.c_X6_123 C rfl (gX6_look2 hv31) ⟨Nat.le_of_ble_eq_true rfl, Nat.le_of_ble_eq_true rfl⟩ ⟨Nat.le_of_ble_eq_true rfl, Nat.le_of_ble_eq_true rfl⟩ (Nat.le_of_ble_eq_true rfl) dX6_next_151 ?_
        refine GG.i2l C dX6_next_154 ?_
        refine GG.ladd C dX6_next_155 ?_
        refine GG.ldc2 C (v := (lN 96)) q1675 dX6_next_156 ?_
        refine GG.lsub C dX6_next_159 ?_
        refine GG.goto C (tgt := 166) dX6_next_160 (by decide) ?_
        refine GG.pm19 C rfl dX6_next_166 ?_
        refine GG.topS fun S32 hS32 => ?_
        have hf := ltb_s hS32 hf
        refine GG.aload_n C dX6_next_169 0 rfl ?_
        refine GG.dup C dX6_next_170 rfl ?_
        refine GG.gm16 C rfl dX6_next_171 ?_
        refine GG.iconst C dX6_next_174 ic_1 ?_
        refine GG.iadd C dX6_next_175 ?_
        refine GG.pm16 C rfl dX6_next_176 ?_
        refine GG.topS fun S33 hS33 => ?_
        have hf := ltb_s hS33 hf
        refine GG.goto C (tgt := 109) dX6_next_179 (by decide) ?_
        refine GG.sub [0] rfl ?_
        exact ih _ hf
theorem gX6_next_210 {K : gK} {X : gX} {M : XS} (C : gC K X cX6_next 2 yX6_next none rX6_next)  {o : MS} (E : gE K X none M (some o) rX6_next.cells rX6_next.slots)   :
    ∀ (n : Nat) (S : MS), fX6_next_210  n S = some o → GG K X 2 0 0 M (some S) 210 [(0, .ref (kh K))] [] := by
  intro n
  induction n with
  | zero => intro S hf; cases hf
  | succ n ih =>
    intro S hf
    rw [fX6_next_210] at hf
    refine GG.aload_n C dX6_next_210 0 rfl ?_
    refine GG.aload_n C dX6_next_211 0 rfl ?_
    refine GG.gm16 C rfl dX6_next_212 ?_
    obtain ⟨v34, hv34, hf⟩ := obd_some hf
    refine GG.c_X6_123 C rfl (gX6_look2 hv34) ⟨Nat.le_of_ble_eq_true rfl, Nat.le_of_ble_eq_true rfl⟩ ⟨Nat.le_of_ble_eq_true rfl, Nat.le_of_ble_eq_true rfl⟩ (Nat.le_of_ble_eq_true rfl) dX6_next_215 ?_
    obtain ⟨v35, hv35, hf⟩ := obd_some hf
    refine GG.c_X6_142 C rfl (gX6_isDigit hv35) ⟨Nat.le_of_ble_eq_true rfl, Nat.le_of_ble_eq_true rfl⟩ ⟨Nat.le_of_ble_eq_true rfl, Nat.le_of_ble_eq_true rfl⟩ (Nat.le_of_ble_eq_true rfl) dX6_next_218 ?_
    refine GG.if_eq C (tgt := 273) dX6_next_221 (by decide) (fun c36 => ?_) (fun c36 => ?_)
    · have hf := if_t hf c36
      refine GG.aload_n C dX6_next_273 0 rfl ?_
      refine GG.aload_n C dX6_next_274 0 rfl ?_
      refine GG.gm16 C rfl dX6_next_275 ?_
      refine GG.aload_n C dX6_next_278 0 rfl ?_
      refine GG.gm15 C rfl dX6_next_279 ?_
      refine GG.isub C dX6_next_282 ?_
      refine GG.iconst C dX6_next_283 ic_4 ?_
      refine GG.icmp_le C (tgt := 291) dX6_next_284 (by decide) (fun c37 => ?_) (fun c37 => ?_)
      · have hf := if_t hf c37
        refine GG.iconst C dX6_next_291 ic_2 ?_
        refine GG.pm14 C rfl dX6_next_292 ?_
        refine GG.topS fun S38 hS38 => ?_
        have hf := ltb_s hS38 hf
        refine GG.goto C (tgt := 323) dX6_next_295 (by decide) ?_
        have hf := Option.some.inj hf
        subst hf
        exact GG.vret C E dX6_next_323
      · have hf := if_f hf c37
        refine GG.iconst C dX6_next_287 ic_4 ?_
        refine GG.goto C (tgt := 292) dX6_next_288 (by decide) ?_
        refine GG.pm14 C rfl dX6_next_292 ?_
        refine GG.topS fun S39 hS39 => ?_
        have hf := ltb_s hS39 hf
        refine GG.goto C (tgt := 323) dX6_next_295 (by decide) ?_
        have hf := Option.some.inj hf
        subst hf
        exact GG.vret C E dX6_next_323
    · have hf := if_f hf c36
      refine GG.aload_n C dX6_next_224 0 rfl ?_
      refine GG.gm16 C rfl dX6_next_225 ?_
      refine GG.aload_n C dX6_next_228 0 rfl ?_
      refine GG.gm15 C rfl dX6_next_229 ?_
      refine GG.isub C dX6_next_232 ?_
      refine GG.iconst C dX6_next_233 ic_4 ?_
      refine GG.icmp_ge C (tgt := 260) dX6_next_234 (by decide) (fun c40 => ?_) (fun c40 => ?_)
      · have hf := if_t hf c40
        refine GG.aload_n C dX6_next_260 0 rfl ?_
        refine GG.dup C dX6_next_261 rfl ?_
        refine GG.gm16 C rfl dX6_next_262 ?_
        refine GG.iconst C dX6_next_265 ic_1 ?_
        refine GG.iadd C dX6_next_266 ?_
        refine GG.pm16 C rfl dX6_next_267 ?_
        refine GG.topS fun S41 hS41 => ?_
        have hf := ltb_s hS41 hf
        refine GG.goto C (tgt := 210) dX6_next_270 (by decide) ?_
        refine GG.sub [0] rfl ?_
        exact ih _ hf
      · have hf := if_f hf c40
        refine GG.aload_n C dX6_next_237 0 rfl ?_
        refine GG.bipush C dX6_next_238 bp_10 ?_
        refine GG.aload_n C dX6_next_240 0 rfl ?_
        refine GG.gm17 C rfl dX6_next_241 ?_
        refine GG.imul C dX6_next_244 ?_
        refine GG.aload_n C dX6_next_245 0 rfl ?_
        refine GG.aload_n C dX6_next_246 0 rfl ?_
        refine GG.gm16 C rfl dX6_next_247 ?_
        obtain ⟨v42, hv42, hf⟩ := obd_some hf
        refine GG.c_X6_123 C rfl (gX6_look2 hv42) ⟨Nat.le_of_ble_eq_true rfl, Nat.le_of_ble_eq_true rfl⟩ ⟨Nat.le_of_ble_eq_true rfl, Nat.le_of_ble_eq_true rfl⟩ (Nat.le_of_ble_eq_true rfl) dX6_next_250 ?_
        refine GG.iadd C dX6_next_253 ?_
        refine GG.bipush C dX6_next_254 bp_48 ?_
        refine GG.isub C dX6_next_256 ?_
        refine GG.pm17 C rfl dX6_next_257 ?_
        refine GG.topS fun S43 hS43 => ?_
        have hf := ltb_s hS43 hf
        refine GG.aload_n C dX6_next_260 0 rfl ?_
        refine GG.dup C dX6_next_261 rfl ?_
        refine GG.gm16 C rfl dX6_next_262 ?_
        refine GG.iconst C dX6_next_265 ic_1 ?_
        refine GG.iadd C dX6_next_266 ?_
        refine GG.pm16 C rfl dX6_next_267 ?_
        refine GG.topS fun S44 hS44 => ?_
        have hf := ltb_s hS44 hf
        refine GG.goto C (tgt := 210) dX6_next_270 (by decide) ?_
        refine GG.sub [0] rfl ?_
        exact ih _ hf
theorem gX6_next_58 {K : gK} {X : gX} {M : XS} (C : gC K X cX6_next 2 yX6_next none rX6_next)  {o : MS} (E : gE K X none M (some o) rX6_next.cells rX6_next.slots)   :
    ∀ (S : MS), fX6_next_58  S = some o → GG K X 2 0 0 M (some S) 58 [(0, .ref (kh K))] [] := by
  intro S hf
  unfold fX6_next_58 at hf
  refine GG.aload_n C dX6_next_58 0 rfl ?_
  refine GG.aload_n C dX6_next_59 0 rfl ?_
  refine GG.gm15 C rfl dX6_next_60 ?_
  refine GG.pm16 C rfl dX6_next_63 ?_
  refine GG.topS fun S9 hS9 => ?_
  have hf := ltb_s hS9 hf
  refine GG.aload_n C dX6_next_66 0 rfl ?_
  refine GG.gm15 C rfl dX6_next_67 ?_
  refine GG.aload_n C dX6_next_70 0 rfl ?_
  refine GG.gm9 C rfl dX6_next_71 ?_
  refine GG.icmp_lt C (tgt := 83) dX6_next_74 (by decide) (fun c10 => ?_) (fun c10 => ?_)
  · have hf := if_t hf c10
    refine GG.aload_n C dX6_next_83 0 rfl ?_
    refine GG.aload_n C dX6_next_84 0 rfl ?_
    refine GG.gm15 C rfl dX6_next_85 ?_
    obtain ⟨v11, hv11, hf⟩ := obd_some hf
    refine GG.c_X6_123 C rfl (gX6_look2 hv11) ⟨Nat.le_of_ble_eq_true rfl, Nat.le_of_ble_eq_true rfl⟩ ⟨Nat.le_of_ble_eq_true rfl, Nat.le_of_ble_eq_true rfl⟩ (Nat.le_of_ble_eq_true rfl) dX6_next_88 ?_
    refine GG.istore_n C (lv' := [(1, .int v11), (0, .ref (kh K))]) dX6_next_91 (by decide) rfl ?_
    refine GG.iload_n C dX6_next_92 0 rfl ?_
    obtain ⟨v12, hv12, hf⟩ := obd_some hf
    refine GG.c_X6_129 C rfl (gX6_isLetter hv12) ⟨Nat.le_of_ble_eq_true rfl, Nat.le_of_ble_eq_true rfl⟩ ⟨Nat.le_of_ble_eq_true rfl, Nat.le_of_ble_eq_true rfl⟩ (Nat.le_of_ble_eq_true rfl) dX6_next_93 ?_
    refine GG.if_eq C (tgt := 198) dX6_next_96 (by decide) (fun c13 => ?_) (fun c13 => ?_)
    · have hf := if_t hf c13
      refine GG.iload_n C dX6_next_198 0 rfl ?_
      obtain ⟨v14, hv14, hf⟩ := obd_some hf
      refine GG.c_X6_142 C rfl (gX6_isDigit hv14) ⟨Nat.le_of_ble_eq_true rfl, Nat.le_of_ble_eq_true rfl⟩ ⟨Nat.le_of_ble_eq_true rfl, Nat.le_of_ble_eq_true rfl⟩ (Nat.le_of_ble_eq_true rfl) dX6_next_199 ?_
      refine GG.if_eq C (tgt := 298) dX6_next_202 (by decide) (fun c15 => ?_) (fun c15 => ?_)
      · have hf := if_t hf c15
        refine GG.aload_n C dX6_next_298 1 rfl ?_
        refine GG.aload_n C dX6_next_299 1 rfl ?_
        refine GG.gm15 C rfl dX6_next_300 ?_
        refine GG.iconst C dX6_next_303 ic_1 ?_
        refine GG.iadd C dX6_next_304 ?_
        refine GG.pm16 C rfl dX6_next_305 ?_
        refine GG.topS fun S16 hS16 => ?_
        have hf := ltb_s hS16 hf
        refine GG.aload_n C dX6_next_308 1 rfl ?_
        refine GG.iload_n C dX6_next_309 0 rfl ?_
        refine GG.bipush C dX6_next_310 bp_59 ?_
        refine GG.icmp_ne C (tgt := 319) dX6_next_312 (by decide) (fun c17 => ?_) (fun c17 => ?_)
        · have hf := if_f hf c17
          refine GG.iconst C dX6_next_319 ic_4 ?_
          refine GG.pm14 C rfl dX6_next_320 ?_
          refine GG.topS fun S18 hS18 => ?_
          have hf := ltb_s hS18 hf
          have hf := Option.some.inj hf
          subst hf
          exact GG.vret C E dX6_next_323
        · have hf := if_t hf c17
          refine GG.iconst C dX6_next_315 ic_3 ?_
          refine GG.goto C (tgt := 320) dX6_next_316 (by decide) ?_
          refine GG.pm14 C rfl dX6_next_320 ?_
          refine GG.topS fun S19 hS19 => ?_
          have hf := ltb_s hS19 hf
          have hf := Option.some.inj hf
          subst hf
          exact GG.vret C E dX6_next_323
      · have hf := if_f hf c15
        refine GG.aload_n C dX6_next_205 1 rfl ?_
        refine GG.iconst C dX6_next_206 ic_0 ?_
        refine GG.pm17 C rfl dX6_next_207 ?_
        refine GG.topS fun S20 hS20 => ?_
        have hf := ltb_s hS20 hf
        refine GG.sub [1] rfl ?_
        exact gX6_next_210 C E  FU _ hf
    · have hf := if_f hf c13
      refine GG.aload_n C dX6_next_99 1 rfl ?_
      refine GG.iconst C dX6_next_100 ic_1 ?_
      refine GG.pm14 C rfl dX6_next_101 ?_
      refine GG.topS fun S21 hS21 => ?_
      have hf := ltb_s hS21 hf
      refine GG.aload_n C dX6_next_104 1 rfl ?_
      refine GG.lconst C dX6_next_105 lc_0 ?_
      refine GG.pm19 C rfl dX6_next_106 ?_
      refine GG.topS fun S22 hS22 => ?_
      have hf := ltb_s hS22 hf
      refine GG.sub [1] rfl ?_
      exact gX6_next_109 C E  FU _ hf
  · have hf := if_f hf c10
    refine GG.aload_n C dX6_next_77 0 rfl ?_
    refine GG.iconst C dX6_next_78 ic_0 ?_
    refine GG.pm14 C rfl dX6_next_79 ?_
    refine GG.topS fun S23 hS23 => ?_
    have hf := ltb_s hS23 hf
    have hf := Option.some.inj hf
    subst hf
    exact GG.vret C E dX6_next_82
theorem gX6_next_8 {K : gK} {X : gX} {M : XS} (C : gC K X cX6_next 2 yX6_next none rX6_next)  {o : MS} (E : gE K X none M (some o) rX6_next.cells rX6_next.slots)   :
    ∀ (n : Nat) (S : MS), fX6_next_8  n S = some o → GG K X 2 0 0 M (some S) 8 [(0, .ref (kh K))] [] := by
  intro n
  induction n with
  | zero => intro S hf; cases hf
  | succ n ih =>
    intro S hf
    rw [fX6_next_8] at hf
    refine GG.aload_n C dX6_next_8 0 rfl ?_
    refine GG.gm15 C rfl dX6_next_9 ?_
    refine GG.aload_n C dX6_next_12 0 rfl ?_
    refine GG.gm9 C rfl dX6_next_13 ?_
    refine GG.icmp_ge C (tgt := 58) dX6_next_16 (by decide) (fun c2 => ?_) (fun c2 => ?_)
    · have hf := if_t hf c2
      refine GG.sub [0] rfl ?_
      exact gX6_next_58 C E  _ hf
    · have hf := if_f hf c2
      refine GG.aload_n C dX6_next_19 0 rfl ?_
      refine GG.aload_n C dX6_next_20 0 rfl ?_
      refine GG.gm15 C rfl dX6_next_21 ?_
      obtain ⟨v3, hv3, hf⟩ := obd_some hf
      refine GG.c_X6_123 C rfl (gX6_look2 hv3) ⟨Nat.le_of_ble_eq_true rfl, Nat.le_of_ble_eq_true rfl⟩ ⟨Nat.le_of_ble_eq_true rfl, Nat.le_of_ble_eq_true rfl⟩ (Nat.le_of_ble_eq_true rfl) dX6_next_24 ?_
      refine GG.bipush C dX6_next_27 bp_10 ?_
      refine GG.icmp_eq C (tgt := 45) dX6_next_29 (by decide) (fun c4 => ?_) (fun c4 => ?_)
      · have hf := if_t hf c4
        refine GG.aload_n C dX6_next_45 0 rfl ?_
        refine GG.dup C dX6_next_46 rfl ?_
        refine GG.gm15 C rfl dX6_next_47 ?_
        refine GG.iconst C dX6_next_50 ic_1 ?_
        refine GG.iadd C dX6_next_51 ?_
        refine GG.pm15 C rfl dX6_next_52 ?_
        refine GG.topS fun S5 hS5 => ?_
        have hf := ltb_s hS5 hf
        refine GG.goto C (tgt := 8) dX6_next_55 (by decide) ?_
        refine GG.sub [0] rfl ?_
        exact ih _ hf
      · have hf := if_f hf c4
        refine GG.aload_n C dX6_next_32 0 rfl ?_
        refine GG.aload_n C dX6_next_33 0 rfl ?_
        refine GG.gm15 C rfl dX6_next_34 ?_
        obtain ⟨v6, hv6, hf⟩ := obd_some hf
        refine GG.c_X6_123 C rfl (gX6_look2 hv6) ⟨Nat.le_of_ble_eq_true rfl, Nat.le_of_ble_eq_true rfl⟩ ⟨Nat.le_of_ble_eq_true rfl, Nat.le_of_ble_eq_true rfl⟩ (Nat.le_of_ble_eq_true rfl) dX6_next_37 ?_
        refine GG.bipush C dX6_next_40 bp_32 ?_
        refine GG.icmp_ne C (tgt := 58) dX6_next_42 (by decide) (fun c7 => ?_) (fun c7 => ?_)
        · have hf := if_f hf c7
          refine GG.sub [0] rfl ?_
          exact gX6_next_58 C E  _ hf
        · have hf := if_t hf c7
          refine GG.aload_n C dX6_next_45 0 rfl ?_
          refine GG.dup C dX6_next_46 rfl ?_
          refine GG.gm15 C rfl dX6_next_47 ?_
          refine GG.iconst C dX6_next_50 ic_1 ?_
          refine GG.iadd C dX6_next_51 ?_
          refine GG.pm15 C rfl dX6_next_52 ?_
          refine GG.topS fun S8 hS8 => ?_
          have hf := ltb_s hS8 hf
          refine GG.goto C (tgt := 8) dX6_next_55 (by decide) ?_
          refine GG.sub [0] rfl ?_
          exact ih _ hf
theorem gX6_next {K : gK} {M : XS}  {S : MS} {o : MS} (hf : fX6_next S = some o) : gMet K yX6_next cX6_next 2 none rX6_next [(.ref (kh K))] M (some S) none M (some o) := by
  refine gMet.of pn_X6 (Nat.le_of_ble_eq_true rfl) fun X C E => ?_
  unfold fX6_next at hf
  show GG K X 2 0 0 M (some S) 0 [(0, .ref (kh K))] []
  refine GG.aload_n C dX6_next_0 0 rfl ?_
  refine GG.aload_n C dX6_next_1 0 rfl ?_
  refine GG.gm16 C rfl dX6_next_2 ?_
  refine GG.pm15 C rfl dX6_next_5 ?_
  refine GG.topS fun S1 hS1 => ?_
  have hf := ltb_s hS1 hf
  refine GG.sub [0] rfl ?_
  exact gX6_next_8 C E  FU _ hf
theorem gX6_opens {K : gK} {M : XS}  {S : MS} {a1 : Int32} {a2 : Int32} {o : (Int32 × MS)} (hf : fX6_opens S a1 a2 = some o) : gMet K yX6_opens cX6_opens 3 (some Jvm.ClassFile.FieldType.boolean) rX6_opens [(.ref (kh K)), (.int a1), (.int a2)] M (some S) (some (.int o.1)) M (some o.2) := by
  refine gMet.of pn_X6 (Nat.le_of_ble_eq_true rfl) fun X C E => ?_
  unfold fX6_opens at hf
  show GG K X 3 0 0 M (some S) 0 [(0, .ref (kh K)), (1, .int a1), (2, .int a2)] []
  refine GG.iload_n C dX6_opens_0 1 rfl ?_
  refine GG.if_lt C (tgt := 17) dX6_opens_1 (by decide) (fun c1 => ?_) (fun c1 => ?_)
  · have hf := if_t hf c1
    refine GG.aload_n C dX6_opens_17 0 rfl ?_
    refine GG.iconst C dX6_opens_18 ic_5 ?_
    obtain ⟨p2, hp2, hf⟩ := obd_some hf
    refine GG.c_X6_90 C rfl (gX6_no hp2) ⟨Nat.le_of_ble_eq_true rfl, Nat.le_of_ble_eq_true rfl⟩ ⟨Nat.le_of_ble_eq_true rfl, Nat.le_of_ble_eq_true rfl⟩ (Nat.le_of_ble_eq_true rfl) dX6_opens_19 ?_
    obtain ⟨c3, hf⟩ := gd_some hf
    have hf := Option.some.inj hf
    subst hf
    exact GG.zret C c3 E dX6_opens_22
  · have hf := if_f hf c1
    refine GG.iload_n C dX6_opens_4 1 rfl ?_
    refine GG.aload_n C dX6_opens_5 0 rfl ?_
    refine GG.gm8 C rfl dX6_opens_6 ?_
    refine GG.icmp_gt C (tgt := 17) dX6_opens_9 (by decide) (fun c4 => ?_) (fun c4 => ?_)
    · have hf := if_t hf c4
      refine GG.aload_n C dX6_opens_17 0 rfl ?_
      refine GG.iconst C dX6_opens_18 ic_5 ?_
      obtain ⟨p5, hp5, hf⟩ := obd_some hf
      refine GG.c_X6_90 C rfl (gX6_no hp5) ⟨Nat.le_of_ble_eq_true rfl, Nat.le_of_ble_eq_true rfl⟩ ⟨Nat.le_of_ble_eq_true rfl, Nat.le_of_ble_eq_true rfl⟩ (Nat.le_of_ble_eq_true rfl) dX6_opens_19 ?_
      obtain ⟨c6, hf⟩ := gd_some hf
      have hf := Option.some.inj hf
      subst hf
      exact GG.zret C c6 E dX6_opens_22
    · have hf := if_f hf c4
      refine GG.iload_n C dX6_opens_12 1 rfl ?_
      refine GG.iload_n C dX6_opens_13 2 rfl ?_
      refine GG.icmp_le C (tgt := 23) dX6_opens_14 (by decide) (fun c7 => ?_) (fun c7 => ?_)
      · have hf := if_t hf c7
        refine GG.aload_n C dX6_opens_23 0 rfl ?_
        refine GG.iload_n C dX6_opens_24 1 rfl ?_
        refine GG.pm9 C rfl dX6_opens_25 ?_
        refine GG.topS fun S8 hS8 => ?_
        have hf := ltb_s hS8 hf
        refine GG.aload_n C dX6_opens_28 0 rfl ?_
        refine GG.iconst C dX6_opens_29 ic_0 ?_
        refine GG.pm8 C rfl dX6_opens_30 ?_
        refine GG.topS fun S9 hS9 => ?_
        have hf := ltb_s hS9 hf
        refine GG.aload_n C dX6_opens_33 0 rfl ?_
        refine GG.iconst C dX6_opens_34 ic_0 ?_
        refine GG.pm16 C rfl dX6_opens_35 ?_
        refine GG.topS fun S10 hS10 => ?_
        have hf := ltb_s hS10 hf
        refine GG.aload_n C dX6_opens_38 0 rfl ?_
        refine GG.iconst C dX6_opens_39 ic_0 ?_
        refine GG.pm12 C rfl dX6_opens_40 ?_
        refine GG.topS fun S11 hS11 => ?_
        have hf := ltb_s hS11 hf
        refine GG.aload_n C dX6_opens_43 0 rfl ?_
        obtain ⟨p12, hp12, hf⟩ := obd_some hf
        refine GG.c_X6_219 C rfl (gX6_next hp12) ⟨Nat.le_of_ble_eq_true rfl, Nat.le_of_ble_eq_true rfl⟩ ⟨Nat.le_of_ble_eq_true rfl, Nat.le_of_ble_eq_true rfl⟩ (Nat.le_of_ble_eq_true rfl) dX6_opens_44 ?_
        refine GG.iconst C dX6_opens_47 ic_1 ?_
        have hf := Option.some.inj hf
        subst hf
        exact GG.zret C zb_1 E dX6_opens_48
      · have hf := if_f hf c7
        refine GG.aload_n C dX6_opens_17 0 rfl ?_
        refine GG.iconst C dX6_opens_18 ic_5 ?_
        obtain ⟨p13, hp13, hf⟩ := obd_some hf
        refine GG.c_X6_90 C rfl (gX6_no hp13) ⟨Nat.le_of_ble_eq_true rfl, Nat.le_of_ble_eq_true rfl⟩ ⟨Nat.le_of_ble_eq_true rfl, Nat.le_of_ble_eq_true rfl⟩ (Nat.le_of_ble_eq_true rfl) dX6_opens_19 ?_
        obtain ⟨c14, hf⟩ := gd_some hf
        have hf := Option.some.inj hf
        subst hf
        exact GG.zret C c14 E dX6_opens_22
theorem gX6_spelled_91 {K : gK} {X : gX} {M : XS} {S : Option MS} (C : gC K X cX6_spelled 8 yX6_spelled (some Jvm.ClassFile.FieldType.long) rX6_spelled)  {o : Int64} (E : gE K X (some (.long o)) M S rX6_spelled.cells rX6_spelled.slots)   :
    ∀ (a5 : Int32) (s0 : Int64), fX6_spelled_91  a5 s0 = some o → GG K X 8 0 0 M S 91 [(5, .int a5)] [.long s0] := by
  intro a5 s0 hf
  unfold fX6_spelled_91 at hf
  refine GG.lstore C (lv' := [(6, .long s0), (5, .int a5)]) dX6_spelled_91 (by decide) rfl ?_
  refine GG.iload C dX6_spelled_93 1 rfl ?_
  refine GG.if_le C (tgt := 115) dX6_spelled_95 (by decide) (fun c5 => ?_) (fun c5 => ?_)
  · have hf := if_t hf c5
    refine GG.lload C dX6_spelled_115 0 rfl ?_
    have hf := Option.some.inj hf
    subst hf
    exact GG.lret C E dX6_spelled_117
  · have hf := if_f hf c5
    refine GG.lload C dX6_spelled_98 0 rfl ?_
    refine GG.ldc2 C (v := (lN 32)) q1674 dX6_spelled_100 ?_
    refine GG.lmul C dX6_spelled_103 ?_
    refine GG.iload C dX6_spelled_104 1 rfl ?_
    refine GG.i2l C dX6_spelled_106 ?_
    refine GG.ladd C dX6_spelled_107 ?_
    refine GG.ldc2 C (v := (lN 96)) q1675 dX6_spelled_108 ?_
    refine GG.lsub C dX6_spelled_111 ?_
    refine GG.goto C (tgt := 117) dX6_spelled_112 (by decide) ?_
    have hf := Option.some.inj hf
    subst hf
    exact GG.lret C E dX6_spelled_117
theorem gX6_spelled_65 {K : gK} {X : gX} {M : XS} {S : Option MS} (C : gC K X cX6_spelled 8 yX6_spelled (some Jvm.ClassFile.FieldType.long) rX6_spelled)  {o : Int64} (E : gE K X (some (.long o)) M S rX6_spelled.cells rX6_spelled.slots)   :
    ∀ (a4 : Int32) (a5 : Int32) (s0 : Int64), fX6_spelled_65  a4 a5 s0 = some o → GG K X 8 0 0 M S 65 [(4, .int a4), (5, .int a5)] [.long s0] := by
  intro a4 a5 s0 hf
  unfold fX6_spelled_65 at hf
  refine GG.lstore C (lv' := [(6, .long s0), (4, .int a4), (5, .int a5)]) dX6_spelled_65 (by decide) rfl ?_
  refine GG.iload C dX6_spelled_67 1 rfl ?_
  refine GG.if_le C (tgt := 89) dX6_spelled_69 (by decide) (fun c4 => ?_) (fun c4 => ?_)
  · have hf := if_t hf c4
    refine GG.lload C dX6_spelled_89 0 rfl ?_
    refine GG.sub [2] rfl ?_
    exact gX6_spelled_91 C E  _ _ hf
  · have hf := if_f hf c4
    refine GG.lload C dX6_spelled_72 0 rfl ?_
    refine GG.ldc2 C (v := (lN 32)) q1674 dX6_spelled_74 ?_
    refine GG.lmul C dX6_spelled_77 ?_
    refine GG.iload C dX6_spelled_78 1 rfl ?_
    refine GG.i2l C dX6_spelled_80 ?_
    refine GG.ladd C dX6_spelled_81 ?_
    refine GG.ldc2 C (v := (lN 96)) q1675 dX6_spelled_82 ?_
    refine GG.lsub C dX6_spelled_85 ?_
    refine GG.goto C (tgt := 91) dX6_spelled_86 (by decide) ?_
    refine GG.sub [2] rfl ?_
    exact gX6_spelled_91 C E  _ _ hf
theorem gX6_spelled_41 {K : gK} {X : gX} {M : XS} {S : Option MS} (C : gC K X cX6_spelled 8 yX6_spelled (some Jvm.ClassFile.FieldType.long) rX6_spelled)  {o : Int64} (E : gE K X (some (.long o)) M S rX6_spelled.cells rX6_spelled.slots)   :
    ∀ (a3 : Int32) (a4 : Int32) (a5 : Int32) (s0 : Int64), fX6_spelled_41  a3 a4 a5 s0 = some o → GG K X 8 0 0 M S 41 [(3, .int a3), (4, .int a4), (5, .int a5)] [.long s0] := by
  intro a3 a4 a5 s0 hf
  unfold fX6_spelled_41 at hf
  refine GG.lstore C (lv' := [(6, .long s0), (3, .int a3), (4, .int a4), (5, .int a5)]) dX6_spelled_41 (by decide) rfl ?_
  refine GG.iload_n C dX6_spelled_43 1 rfl ?_
  refine GG.if_le C (tgt := 63) dX6_spelled_44 (by decide) (fun c3 => ?_) (fun c3 => ?_)
  · have hf := if_t hf c3
    refine GG.lload C dX6_spelled_63 0 rfl ?_
    refine GG.sub [2, 3] rfl ?_
    exact gX6_spelled_65 C E  _ _ _ hf
  · have hf := if_f hf c3
    refine GG.lload C dX6_spelled_47 0 rfl ?_
    refine GG.ldc2 C (v := (lN 32)) q1674 dX6_spelled_49 ?_
    refine GG.lmul C dX6_spelled_52 ?_
    refine GG.iload_n C dX6_spelled_53 1 rfl ?_
    refine GG.i2l C dX6_spelled_54 ?_
    refine GG.ladd C dX6_spelled_55 ?_
    refine GG.ldc2 C (v := (lN 96)) q1675 dX6_spelled_56 ?_
    refine GG.lsub C dX6_spelled_59 ?_
    refine GG.goto C (tgt := 65) dX6_spelled_60 (by decide) ?_
    refine GG.sub [2, 3] rfl ?_
    exact gX6_spelled_65 C E  _ _ _ hf
theorem gX6_spelled {K : gK} {M : XS} {S : Option MS}  {a0 : Int32} {a1 : Int32} {a2 : Int32} {a3 : Int32} {a4 : Int32} {a5 : Int32} {o : Int64} (hf : fX6_spelled a0 a1 a2 a3 a4 a5 = some o) : gMet K yX6_spelled cX6_spelled 8 (some Jvm.ClassFile.FieldType.long) rX6_spelled [(.int a0), (.int a1), (.int a2), (.int a3), (.int a4), (.int a5)] M S (some (.long o)) M S := by
  refine gMet.of pn_X6 (Nat.le_of_ble_eq_true rfl) fun X C E => ?_
  unfold fX6_spelled at hf
  show GG K X 8 0 0 M S 0 [(0, .int a0), (1, .int a1), (2, .int a2), (3, .int a3), (4, .int a4), (5, .int a5)] []
  refine GG.iload_n C dX6_spelled_0 0 rfl ?_
  refine GG.i2l C dX6_spelled_1 ?_
  refine GG.ldc2 C (v := (lN 96)) q1675 dX6_spelled_2 ?_
  refine GG.lsub C dX6_spelled_5 ?_
  refine GG.ldc2 C (v := (lN 32)) q1674 dX6_spelled_6 ?_
  refine GG.lmul C dX6_spelled_9 ?_
  refine GG.iload_n C dX6_spelled_10 1 rfl ?_
  refine GG.i2l C dX6_spelled_11 ?_
  refine GG.ladd C dX6_spelled_12 ?_
  refine GG.ldc2 C (v := (lN 96)) q1675 dX6_spelled_13 ?_
  refine GG.lsub C dX6_spelled_16 ?_
  refine GG.topl fun x1 hx1 => ?_
  have hf := ltb_s hx1 hf
  refine GG.lstore C (lv' := [(6, .long x1), (0, .int a0), (1, .int a1), (2, .int a2), (3, .int a3), (4, .int a4), (5, .int a5)]) dX6_spelled_17 (by decide) rfl ?_
  refine GG.iload_n C dX6_spelled_19 3 rfl ?_
  refine GG.if_le C (tgt := 39) dX6_spelled_20 (by decide) (fun c2 => ?_) (fun c2 => ?_)
  · have hf := if_t hf c2
    refine GG.lload C dX6_spelled_39 0 rfl ?_
    refine GG.sub [4, 5, 6] rfl ?_
    exact gX6_spelled_41 C E  _ _ _ _ hf
  · have hf := if_f hf c2
    refine GG.lload C dX6_spelled_23 0 rfl ?_
    refine GG.ldc2 C (v := (lN 32)) q1674 dX6_spelled_25 ?_
    refine GG.lmul C dX6_spelled_28 ?_
    refine GG.iload_n C dX6_spelled_29 3 rfl ?_
    refine GG.i2l C dX6_spelled_30 ?_
    refine GG.ladd C dX6_spelled_31 ?_
    refine GG.ldc2 C (v := (lN 96)) q1675 dX6_spelled_32 ?_
    refine GG.lsub C dX6_spelled_35 ?_
    refine GG.goto C (tgt := 41) dX6_spelled_36 (by decide) ?_
    refine GG.sub [4, 5, 6] rfl ?_
    exact gX6_spelled_41 C E  _ _ _ _ hf
theorem gX6_isWord {K : gK} {M : XS}  {S : MS} {a1 : Int64} {o : Int32} (hf : fX6_isWord S a1 = some o) : gMet K yX6_isWord cX6_isWord 3 (some Jvm.ClassFile.FieldType.boolean) rX6_isWord [(.ref (kh K)), (.long a1)] M (some S) (some (.int o)) M (some S) := by
  refine gMet.of pn_X6 (Nat.le_of_ble_eq_true rfl) fun X C E => ?_
  unfold fX6_isWord at hf
  show GG K X 3 0 0 M (some S) 0 [(0, .ref (kh K)), (1, .long a1)] []
  refine GG.aload_n C dX6_isWord_0 0 rfl ?_
  refine GG.gm14 C rfl dX6_isWord_1 ?_
  refine GG.iconst C dX6_isWord_4 ic_1 ?_
  refine GG.icmp_ne C (tgt := 21) dX6_isWord_5 (by decide) (fun c1 => ?_) (fun c1 => ?_)
  · have hf := if_f hf c1
    refine GG.iconst C dX6_isWord_21 ic_0 ?_
    have hf := Option.some.inj hf
    subst hf
    exact GG.zret C zb_0 E dX6_isWord_22
  · have hf := if_t hf c1
    refine GG.aload_n C dX6_isWord_8 0 rfl ?_
    refine GG.gm19 C rfl dX6_isWord_9 ?_
    refine GG.lload_n C dX6_isWord_12 1 rfl ?_
    refine GG.lcmp C dX6_isWord_13 ?_
    refine GG.if_ne C (tgt := 21) dX6_isWord_14 (by decide) (fun c2 => ?_) (fun c2 => ?_)
    · have hf := if_f hf c2
      refine GG.iconst C dX6_isWord_21 ic_0 ?_
      have hf := Option.some.inj hf
      subst hf
      exact GG.zret C zb_0 E dX6_isWord_22
    · have hf := if_t hf c2
      refine GG.iconst C dX6_isWord_17 ic_1 ?_
      refine GG.goto C (tgt := 22) dX6_isWord_18 (by decide) ?_
      have hf := Option.some.inj hf
      subst hf
      exact GG.zret C zb_1 E dX6_isWord_22
theorem gX6_isIslandWord {K : gK} {M : XS}  {S : MS} {o : Int32} (hf : fX6_isIslandWord S = some o) : gMet K yX6_isIslandWord cX6_isIslandWord 1 (some Jvm.ClassFile.FieldType.boolean) rX6_isIslandWord [(.ref (kh K))] M (some S) (some (.int o)) M (some S) := by
  refine gMet.of pn_X6 (Nat.le_of_ble_eq_true rfl) fun X C E => ?_
  unfold fX6_isIslandWord at hf
  show GG K X 1 0 0 M (some S) 0 [(0, .ref (kh K))] []
  refine GG.aload_n C dX6_isIslandWord_0 0 rfl ?_
  refine GG.bipush C dX6_isIslandWord_1 bp_105 ?_
  refine GG.bipush C dX6_isIslandWord_3 bp_115 ?_
  refine GG.bipush C dX6_isIslandWord_5 bp_108 ?_
  refine GG.bipush C dX6_isIslandWord_7 bp_97 ?_
  refine GG.bipush C dX6_isIslandWord_9 bp_110 ?_
  refine GG.bipush C dX6_isIslandWord_11 bp_100 ?_
  obtain ⟨v1, hv1, hf⟩ := obd_some hf
  refine GG.c_X6_148 C rfl (gX6_spelled hv1) ⟨Nat.le_of_ble_eq_true rfl, Nat.le_of_ble_eq_true rfl⟩ ⟨Nat.le_of_ble_eq_true rfl, Nat.le_of_ble_eq_true rfl⟩ (Nat.le_of_ble_eq_true rfl) dX6_isIslandWord_13 ?_
  obtain ⟨v2, hv2, hf⟩ := obd_some hf
  refine GG.c_X6_152 C rfl (gX6_isWord hv2) ⟨Nat.le_of_ble_eq_true rfl, Nat.le_of_ble_eq_true rfl⟩ ⟨Nat.le_of_ble_eq_true rfl, Nat.le_of_ble_eq_true rfl⟩ (Nat.le_of_ble_eq_true rfl) dX6_isIslandWord_16 ?_
  obtain ⟨c3, hf⟩ := gd_some hf
  have hf := Option.some.inj hf
  subst hf
  exact GG.zret C c3 E dX6_isIslandWord_19
theorem gX6_fail {K : gK} {M : XS}  {S : MS} {a1 : Int32} {a2 : Int32} {o : MS} (hf : fX6_fail S a1 a2 = some o) : gMet K yX6_fail cX6_fail 3 none rX6_fail [(.ref (kh K)), (.int a1), (.int a2)] M (some S) none M (some o) := by
  refine gMet.of pn_X6 (Nat.le_of_ble_eq_true rfl) fun X C E => ?_
  unfold fX6_fail at hf
  show GG K X 3 0 0 M (some S) 0 [(0, .ref (kh K)), (1, .int a1), (2, .int a2)] []
  refine GG.aload_n C dX6_fail_0 0 rfl ?_
  refine GG.gm12 C rfl dX6_fail_1 ?_
  refine GG.if_le C (tgt := 8) dX6_fail_4 (by decide) (fun c1 => ?_) (fun c1 => ?_)
  · have hf := if_t hf c1
    refine GG.aload_n C dX6_fail_8 0 rfl ?_
    refine GG.iload_n C dX6_fail_9 1 rfl ?_
    refine GG.pm12 C rfl dX6_fail_10 ?_
    refine GG.topS fun S2 hS2 => ?_
    have hf := ltb_s hS2 hf
    refine GG.aload_n C dX6_fail_13 0 rfl ?_
    refine GG.iload_n C dX6_fail_14 2 rfl ?_
    refine GG.pm13 C rfl dX6_fail_15 ?_
    refine GG.topS fun S3 hS3 => ?_
    have hf := ltb_s hS3 hf
    have hf := Option.some.inj hf
    subst hf
    exact GG.vret C E dX6_fail_18
  · have hf := if_f hf c1
    have hf := Option.some.inj hf
    subst hf
    exact GG.vret C E dX6_fail_7
theorem gX6_kindWord {K : gK} {M : XS}  {S : MS} {o : Int32} (hf : fX6_kindWord S = some o) : gMet K yX6_kindWord cX6_kindWord 1 (some Jvm.ClassFile.FieldType.int) rX6_kindWord [(.ref (kh K))] M (some S) (some (.int o)) M (some S) := by
  refine gMet.of pn_X6 (Nat.le_of_ble_eq_true rfl) fun X C E => ?_
  unfold fX6_kindWord at hf
  show GG K X 1 0 0 M (some S) 0 [(0, .ref (kh K))] []
  refine GG.aload_n C dX6_kindWord_0 0 rfl ?_
  refine GG.bipush C dX6_kindWord_1 bp_112 ?_
  refine GG.bipush C dX6_kindWord_3 bp_117 ?_
  refine GG.bipush C dX6_kindWord_5 bp_116 ?_
  refine GG.iconst C dX6_kindWord_7 ic_0 ?_
  refine GG.iconst C dX6_kindWord_8 ic_0 ?_
  refine GG.iconst C dX6_kindWord_9 ic_0 ?_
  obtain ⟨v1, hv1, hf⟩ := obd_some hf
  refine GG.c_X6_148 C rfl (gX6_spelled hv1) ⟨Nat.le_of_ble_eq_true rfl, Nat.le_of_ble_eq_true rfl⟩ ⟨Nat.le_of_ble_eq_true rfl, Nat.le_of_ble_eq_true rfl⟩ (Nat.le_of_ble_eq_true rfl) dX6_kindWord_10 ?_
  obtain ⟨v2, hv2, hf⟩ := obd_some hf
  refine GG.c_X6_152 C rfl (gX6_isWord hv2) ⟨Nat.le_of_ble_eq_true rfl, Nat.le_of_ble_eq_true rfl⟩ ⟨Nat.le_of_ble_eq_true rfl, Nat.le_of_ble_eq_true rfl⟩ (Nat.le_of_ble_eq_true rfl) dX6_kindWord_13 ?_
  refine GG.if_eq C (tgt := 21) dX6_kindWord_16 (by decide) (fun c3 => ?_) (fun c3 => ?_)
  · have hf := if_t hf c3
    refine GG.aload_n C dX6_kindWord_21 0 rfl ?_
    refine GG.bipush C dX6_kindWord_22 bp_116 ?_
    refine GG.bipush C dX6_kindWord_24 bp_97 ?_
    refine GG.bipush C dX6_kindWord_26 bp_107 ?_
    refine GG.bipush C dX6_kindWord_28 bp_101 ?_
    refine GG.iconst C dX6_kindWord_30 ic_0 ?_
    refine GG.iconst C dX6_kindWord_31 ic_0 ?_
    obtain ⟨v4, hv4, hf⟩ := obd_some hf
    refine GG.c_X6_148 C rfl (gX6_spelled hv4) ⟨Nat.le_of_ble_eq_true rfl, Nat.le_of_ble_eq_true rfl⟩ ⟨Nat.le_of_ble_eq_true rfl, Nat.le_of_ble_eq_true rfl⟩ (Nat.le_of_ble_eq_true rfl) dX6_kindWord_32 ?_
    obtain ⟨v5, hv5, hf⟩ := obd_some hf
    refine GG.c_X6_152 C rfl (gX6_isWord hv5) ⟨Nat.le_of_ble_eq_true rfl, Nat.le_of_ble_eq_true rfl⟩ ⟨Nat.le_of_ble_eq_true rfl, Nat.le_of_ble_eq_true rfl⟩ (Nat.le_of_ble_eq_true rfl) dX6_kindWord_35 ?_
    refine GG.if_eq C (tgt := 43) dX6_kindWord_38 (by decide) (fun c6 => ?_) (fun c6 => ?_)
    · have hf := if_t hf c6
      refine GG.aload_n C dX6_kindWord_43 0 rfl ?_
      refine GG.bipush C dX6_kindWord_44 bp_110 ?_
      refine GG.bipush C dX6_kindWord_46 bp_97 ?_
      refine GG.bipush C dX6_kindWord_48 bp_109 ?_
      refine GG.bipush C dX6_kindWord_50 bp_101 ?_
      refine GG.iconst C dX6_kindWord_52 ic_0 ?_
      refine GG.iconst C dX6_kindWord_53 ic_0 ?_
      obtain ⟨v7, hv7, hf⟩ := obd_some hf
      refine GG.c_X6_148 C rfl (gX6_spelled hv7) ⟨Nat.le_of_ble_eq_true rfl, Nat.le_of_ble_eq_true rfl⟩ ⟨Nat.le_of_ble_eq_true rfl, Nat.le_of_ble_eq_true rfl⟩ (Nat.le_of_ble_eq_true rfl) dX6_kindWord_54 ?_
      obtain ⟨v8, hv8, hf⟩ := obd_some hf
      refine GG.c_X6_152 C rfl (gX6_isWord hv8) ⟨Nat.le_of_ble_eq_true rfl, Nat.le_of_ble_eq_true rfl⟩ ⟨Nat.le_of_ble_eq_true rfl, Nat.le_of_ble_eq_true rfl⟩ (Nat.le_of_ble_eq_true rfl) dX6_kindWord_57 ?_
      refine GG.if_eq C (tgt := 65) dX6_kindWord_60 (by decide) (fun c9 => ?_) (fun c9 => ?_)
      · have hf := if_t hf c9
        refine GG.aload_n C dX6_kindWord_65 0 rfl ?_
        refine GG.bipush C dX6_kindWord_66 bp_109 ?_
        refine GG.bipush C dX6_kindWord_68 bp_111 ?_
        refine GG.bipush C dX6_kindWord_70 bp_118 ?_
        refine GG.bipush C dX6_kindWord_72 bp_101 ?_
        refine GG.iconst C dX6_kindWord_74 ic_0 ?_
        refine GG.iconst C dX6_kindWord_75 ic_0 ?_
        obtain ⟨v10, hv10, hf⟩ := obd_some hf
        refine GG.c_X6_148 C rfl (gX6_spelled hv10) ⟨Nat.le_of_ble_eq_true rfl, Nat.le_of_ble_eq_true rfl⟩ ⟨Nat.le_of_ble_eq_true rfl, Nat.le_of_ble_eq_true rfl⟩ (Nat.le_of_ble_eq_true rfl) dX6_kindWord_76 ?_
        obtain ⟨v11, hv11, hf⟩ := obd_some hf
        refine GG.c_X6_152 C rfl (gX6_isWord hv11) ⟨Nat.le_of_ble_eq_true rfl, Nat.le_of_ble_eq_true rfl⟩ ⟨Nat.le_of_ble_eq_true rfl, Nat.le_of_ble_eq_true rfl⟩ (Nat.le_of_ble_eq_true rfl) dX6_kindWord_79 ?_
        refine GG.if_eq C (tgt := 87) dX6_kindWord_82 (by decide) (fun c12 => ?_) (fun c12 => ?_)
        · have hf := if_t hf c12
          refine GG.aload_n C dX6_kindWord_87 0 rfl ?_
          refine GG.bipush C dX6_kindWord_88 bp_115 ?_
          refine GG.bipush C dX6_kindWord_90 bp_101 ?_
          refine GG.bipush C dX6_kindWord_92 bp_116 ?_
          refine GG.bipush C dX6_kindWord_94 bp_116 ?_
          refine GG.bipush C dX6_kindWord_96 bp_108 ?_
          refine GG.bipush C dX6_kindWord_98 bp_101 ?_
          obtain ⟨v13, hv13, hf⟩ := obd_some hf
          refine GG.c_X6_148 C rfl (gX6_spelled hv13) ⟨Nat.le_of_ble_eq_true rfl, Nat.le_of_ble_eq_true rfl⟩ ⟨Nat.le_of_ble_eq_true rfl, Nat.le_of_ble_eq_true rfl⟩ (Nat.le_of_ble_eq_true rfl) dX6_kindWord_100 ?_
          obtain ⟨v14, hv14, hf⟩ := obd_some hf
          refine GG.c_X6_152 C rfl (gX6_isWord hv14) ⟨Nat.le_of_ble_eq_true rfl, Nat.le_of_ble_eq_true rfl⟩ ⟨Nat.le_of_ble_eq_true rfl, Nat.le_of_ble_eq_true rfl⟩ (Nat.le_of_ble_eq_true rfl) dX6_kindWord_103 ?_
          refine GG.if_eq C (tgt := 113) dX6_kindWord_106 (by decide) (fun c15 => ?_) (fun c15 => ?_)
          · have hf := if_t hf c15
            refine GG.iconst C dX6_kindWord_113 ic_m1 ?_
            have hf := Option.some.inj hf
            subst hf
            exact GG.iret C E dX6_kindWord_114
          · have hf := if_f hf c15
            refine GG.iconst C dX6_kindWord_109 ic_4 ?_
            refine GG.goto C (tgt := 114) dX6_kindWord_110 (by decide) ?_
            have hf := Option.some.inj hf
            subst hf
            exact GG.iret C E dX6_kindWord_114
        · have hf := if_f hf c12
          refine GG.iconst C dX6_kindWord_85 ic_3 ?_
          have hf := Option.some.inj hf
          subst hf
          exact GG.iret C E dX6_kindWord_86
      · have hf := if_f hf c9
        refine GG.iconst C dX6_kindWord_63 ic_2 ?_
        have hf := Option.some.inj hf
        subst hf
        exact GG.iret C E dX6_kindWord_64
    · have hf := if_f hf c6
      refine GG.iconst C dX6_kindWord_41 ic_1 ?_
      have hf := Option.some.inj hf
      subst hf
      exact GG.iret C E dX6_kindWord_42
  · have hf := if_f hf c3
    refine GG.iconst C dX6_kindWord_19 ic_0 ?_
    have hf := Option.some.inj hf
    subst hf
    exact GG.iret C E dX6_kindWord_20
theorem gX6_isKey {K : gK} {M : XS}  {S : MS} {o : Int32} (hf : fX6_isKey S = some o) : gMet K yX6_isKey cX6_isKey 1 (some Jvm.ClassFile.FieldType.boolean) rX6_isKey [(.ref (kh K))] M (some S) (some (.int o)) M (some S) := by
  refine gMet.of pn_X6 (Nat.le_of_ble_eq_true rfl) fun X C E => ?_
  unfold fX6_isKey at hf
  show GG K X 1 0 0 M (some S) 0 [(0, .ref (kh K))] []
  refine GG.aload_n C dX6_isKey_0 0 rfl ?_
  refine GG.bipush C dX6_isKey_1 bp_107 ?_
  refine GG.bipush C dX6_isKey_3 bp_101 ?_
  refine GG.bipush C dX6_isKey_5 bp_121 ?_
  refine GG.iconst C dX6_isKey_7 ic_0 ?_
  refine GG.iconst C dX6_isKey_8 ic_0 ?_
  refine GG.iconst C dX6_isKey_9 ic_0 ?_
  obtain ⟨v1, hv1, hf⟩ := obd_some hf
  refine GG.c_X6_148 C rfl (gX6_spelled hv1) ⟨Nat.le_of_ble_eq_true rfl, Nat.le_of_ble_eq_true rfl⟩ ⟨Nat.le_of_ble_eq_true rfl, Nat.le_of_ble_eq_true rfl⟩ (Nat.le_of_ble_eq_true rfl) dX6_isKey_10 ?_
  obtain ⟨v2, hv2, hf⟩ := obd_some hf
  refine GG.c_X6_152 C rfl (gX6_isWord hv2) ⟨Nat.le_of_ble_eq_true rfl, Nat.le_of_ble_eq_true rfl⟩ ⟨Nat.le_of_ble_eq_true rfl, Nat.le_of_ble_eq_true rfl⟩ (Nat.le_of_ble_eq_true rfl) dX6_isKey_13 ?_
  obtain ⟨c3, hf⟩ := gd_some hf
  have hf := Option.some.inj hf
  subst hf
  exact GG.zret C c3 E dX6_isKey_16
theorem gX6_isSays {K : gK} {M : XS}  {S : MS} {o : Int32} (hf : fX6_isSays S = some o) : gMet K yX6_isSays cX6_isSays 1 (some Jvm.ClassFile.FieldType.boolean) rX6_isSays [(.ref (kh K))] M (some S) (some (.int o)) M (some S) := by
  refine gMet.of pn_X6 (Nat.le_of_ble_eq_true rfl) fun X C E => ?_
  unfold fX6_isSays at hf
  show GG K X 1 0 0 M (some S) 0 [(0, .ref (kh K))] []
  refine GG.aload_n C dX6_isSays_0 0 rfl ?_
  refine GG.bipush C dX6_isSays_1 bp_115 ?_
  refine GG.bipush C dX6_isSays_3 bp_97 ?_
  refine GG.bipush C dX6_isSays_5 bp_121 ?_
  refine GG.bipush C dX6_isSays_7 bp_115 ?_
  refine GG.iconst C dX6_isSays_9 ic_0 ?_
  refine GG.iconst C dX6_isSays_10 ic_0 ?_
  obtain ⟨v1, hv1, hf⟩ := obd_some hf
  refine GG.c_X6_148 C rfl (gX6_spelled hv1) ⟨Nat.le_of_ble_eq_true rfl, Nat.le_of_ble_eq_true rfl⟩ ⟨Nat.le_of_ble_eq_true rfl, Nat.le_of_ble_eq_true rfl⟩ (Nat.le_of_ble_eq_true rfl) dX6_isSays_11 ?_
  obtain ⟨v2, hv2, hf⟩ := obd_some hf
  refine GG.c_X6_152 C rfl (gX6_isWord hv2) ⟨Nat.le_of_ble_eq_true rfl, Nat.le_of_ble_eq_true rfl⟩ ⟨Nat.le_of_ble_eq_true rfl, Nat.le_of_ble_eq_true rfl⟩ (Nat.le_of_ble_eq_true rfl) dX6_isSays_14 ?_
  obtain ⟨c3, hf⟩ := gd_some hf
  have hf := Option.some.inj hf
  subst hf
  exact GG.zret C c3 E dX6_isSays_17
theorem gX6_isOf {K : gK} {M : XS}  {S : MS} {o : Int32} (hf : fX6_isOf S = some o) : gMet K yX6_isOf cX6_isOf 1 (some Jvm.ClassFile.FieldType.boolean) rX6_isOf [(.ref (kh K))] M (some S) (some (.int o)) M (some S) := by
  refine gMet.of pn_X6 (Nat.le_of_ble_eq_true rfl) fun X C E => ?_
  unfold fX6_isOf at hf
  show GG K X 1 0 0 M (some S) 0 [(0, .ref (kh K))] []
  refine GG.aload_n C dX6_isOf_0 0 rfl ?_
  refine GG.bipush C dX6_isOf_1 bp_111 ?_
  refine GG.bipush C dX6_isOf_3 bp_102 ?_
  refine GG.iconst C dX6_isOf_5 ic_0 ?_
  refine GG.iconst C dX6_isOf_6 ic_0 ?_
  refine GG.iconst C dX6_isOf_7 ic_0 ?_
  refine GG.iconst C dX6_isOf_8 ic_0 ?_
  obtain ⟨v1, hv1, hf⟩ := obd_some hf
  refine GG.c_X6_148 C rfl (gX6_spelled hv1) ⟨Nat.le_of_ble_eq_true rfl, Nat.le_of_ble_eq_true rfl⟩ ⟨Nat.le_of_ble_eq_true rfl, Nat.le_of_ble_eq_true rfl⟩ (Nat.le_of_ble_eq_true rfl) dX6_isOf_9 ?_
  obtain ⟨v2, hv2, hf⟩ := obd_some hf
  refine GG.c_X6_152 C rfl (gX6_isWord hv2) ⟨Nat.le_of_ble_eq_true rfl, Nat.le_of_ble_eq_true rfl⟩ ⟨Nat.le_of_ble_eq_true rfl, Nat.le_of_ble_eq_true rfl⟩ (Nat.le_of_ble_eq_true rfl) dX6_isOf_12 ?_
  obtain ⟨c3, hf⟩ := gd_some hf
  have hf := Option.some.inj hf
  subst hf
  exact GG.zret C c3 E dX6_isOf_15
theorem gX6_isNot {K : gK} {M : XS}  {S : MS} {o : Int32} (hf : fX6_isNot S = some o) : gMet K yX6_isNot cX6_isNot 1 (some Jvm.ClassFile.FieldType.boolean) rX6_isNot [(.ref (kh K))] M (some S) (some (.int o)) M (some S) := by
  refine gMet.of pn_X6 (Nat.le_of_ble_eq_true rfl) fun X C E => ?_
  unfold fX6_isNot at hf
  show GG K X 1 0 0 M (some S) 0 [(0, .ref (kh K))] []
  refine GG.aload_n C dX6_isNot_0 0 rfl ?_
  refine GG.bipush C dX6_isNot_1 bp_110 ?_
  refine GG.bipush C dX6_isNot_3 bp_111 ?_
  refine GG.bipush C dX6_isNot_5 bp_116 ?_
  refine GG.iconst C dX6_isNot_7 ic_0 ?_
  refine GG.iconst C dX6_isNot_8 ic_0 ?_
  refine GG.iconst C dX6_isNot_9 ic_0 ?_
  obtain ⟨v1, hv1, hf⟩ := obd_some hf
  refine GG.c_X6_148 C rfl (gX6_spelled hv1) ⟨Nat.le_of_ble_eq_true rfl, Nat.le_of_ble_eq_true rfl⟩ ⟨Nat.le_of_ble_eq_true rfl, Nat.le_of_ble_eq_true rfl⟩ (Nat.le_of_ble_eq_true rfl) dX6_isNot_10 ?_
  obtain ⟨v2, hv2, hf⟩ := obd_some hf
  refine GG.c_X6_152 C rfl (gX6_isWord hv2) ⟨Nat.le_of_ble_eq_true rfl, Nat.le_of_ble_eq_true rfl⟩ ⟨Nat.le_of_ble_eq_true rfl, Nat.le_of_ble_eq_true rfl⟩ (Nat.le_of_ble_eq_true rfl) dX6_isNot_13 ?_
  obtain ⟨c3, hf⟩ := gd_some hf
  have hf := Option.some.inj hf
  subst hf
  exact GG.zret C c3 E dX6_isNot_16
theorem gX6_isAfter {K : gK} {M : XS}  {S : MS} {o : Int32} (hf : fX6_isAfter S = some o) : gMet K yX6_isAfter cX6_isAfter 1 (some Jvm.ClassFile.FieldType.boolean) rX6_isAfter [(.ref (kh K))] M (some S) (some (.int o)) M (some S) := by
  refine gMet.of pn_X6 (Nat.le_of_ble_eq_true rfl) fun X C E => ?_
  unfold fX6_isAfter at hf
  show GG K X 1 0 0 M (some S) 0 [(0, .ref (kh K))] []
  refine GG.aload_n C dX6_isAfter_0 0 rfl ?_
  refine GG.bipush C dX6_isAfter_1 bp_97 ?_
  refine GG.bipush C dX6_isAfter_3 bp_102 ?_
  refine GG.bipush C dX6_isAfter_5 bp_116 ?_
  refine GG.bipush C dX6_isAfter_7 bp_101 ?_
  refine GG.bipush C dX6_isAfter_9 bp_114 ?_
  refine GG.iconst C dX6_isAfter_11 ic_0 ?_
  obtain ⟨v1, hv1, hf⟩ := obd_some hf
  refine GG.c_X6_148 C rfl (gX6_spelled hv1) ⟨Nat.le_of_ble_eq_true rfl, Nat.le_of_ble_eq_true rfl⟩ ⟨Nat.le_of_ble_eq_true rfl, Nat.le_of_ble_eq_true rfl⟩ (Nat.le_of_ble_eq_true rfl) dX6_isAfter_12 ?_
  obtain ⟨v2, hv2, hf⟩ := obd_some hf
  refine GG.c_X6_152 C rfl (gX6_isWord hv2) ⟨Nat.le_of_ble_eq_true rfl, Nat.le_of_ble_eq_true rfl⟩ ⟨Nat.le_of_ble_eq_true rfl, Nat.le_of_ble_eq_true rfl⟩ (Nat.le_of_ble_eq_true rfl) dX6_isAfter_15 ?_
  obtain ⟨c3, hf⟩ := gd_some hf
  have hf := Option.some.inj hf
  subst hf
  exact GG.zret C c3 E dX6_isAfter_18
theorem gX6_stepWord {K : gK} {M : XS}  {S : MS} {o : Int32} (hf : fX6_stepWord S = some o) : gMet K yX6_stepWord cX6_stepWord 1 (some Jvm.ClassFile.FieldType.int) rX6_stepWord [(.ref (kh K))] M (some S) (some (.int o)) M (some S) := by
  refine gMet.of pn_X6 (Nat.le_of_ble_eq_true rfl) fun X C E => ?_
  unfold fX6_stepWord at hf
  show GG K X 1 0 0 M (some S) 0 [(0, .ref (kh K))] []
  refine GG.aload_n C dX6_stepWord_0 0 rfl ?_
  refine GG.bipush C dX6_stepWord_1 bp_109 ?_
  refine GG.bipush C dX6_stepWord_3 bp_97 ?_
  refine GG.bipush C dX6_stepWord_5 bp_107 ?_
  refine GG.bipush C dX6_stepWord_7 bp_101 ?_
  refine GG.iconst C dX6_stepWord_9 ic_0 ?_
  refine GG.iconst C dX6_stepWord_10 ic_0 ?_
  obtain ⟨v1, hv1, hf⟩ := obd_some hf
  refine GG.c_X6_148 C rfl (gX6_spelled hv1) ⟨Nat.le_of_ble_eq_true rfl, Nat.le_of_ble_eq_true rfl⟩ ⟨Nat.le_of_ble_eq_true rfl, Nat.le_of_ble_eq_true rfl⟩ (Nat.le_of_ble_eq_true rfl) dX6_stepWord_11 ?_
  obtain ⟨v2, hv2, hf⟩ := obd_some hf
  refine GG.c_X6_152 C rfl (gX6_isWord hv2) ⟨Nat.le_of_ble_eq_true rfl, Nat.le_of_ble_eq_true rfl⟩ ⟨Nat.le_of_ble_eq_true rfl, Nat.le_of_ble_eq_true rfl⟩ (Nat.le_of_ble_eq_true rfl) dX6_stepWord_14 ?_
  refine GG.if_eq C (tgt := 22) dX6_stepWord_17 (by decide) (fun c3 => ?_) (fun c3 => ?_)
  · have hf := if_t hf c3
    refine GG.aload_n C dX6_stepWord_22 0 rfl ?_
    refine GG.bipush C dX6_stepWord_23 bp_115 ?_
    refine GG.bipush C dX6_stepWord_25 bp_104 ?_
    refine GG.bipush C dX6_stepWord_27 bp_105 ?_
    refine GG.bipush C dX6_stepWord_29 bp_112 ?_
    refine GG.iconst C dX6_stepWord_31 ic_0 ?_
    refine GG.iconst C dX6_stepWord_32 ic_0 ?_
    obtain ⟨v4, hv4, hf⟩ := obd_some hf
    refine GG.c_X6_148 C rfl (gX6_spelled hv4) ⟨Nat.le_of_ble_eq_true rfl, Nat.le_of_ble_eq_true rfl⟩ ⟨Nat.le_of_ble_eq_true rfl, Nat.le_of_ble_eq_true rfl⟩ (Nat.le_of_ble_eq_true rfl) dX6_stepWord_33 ?_
    obtain ⟨v5, hv5, hf⟩ := obd_some hf
    refine GG.c_X6_152 C rfl (gX6_isWord hv5) ⟨Nat.le_of_ble_eq_true rfl, Nat.le_of_ble_eq_true rfl⟩ ⟨Nat.le_of_ble_eq_true rfl, Nat.le_of_ble_eq_true rfl⟩ (Nat.le_of_ble_eq_true rfl) dX6_stepWord_36 ?_
    refine GG.if_eq C (tgt := 44) dX6_stepWord_39 (by decide) (fun c6 => ?_) (fun c6 => ?_)
    · have hf := if_t hf c6
      refine GG.aload_n C dX6_stepWord_44 0 rfl ?_
      refine GG.bipush C dX6_stepWord_45 bp_111 ?_
      refine GG.bipush C dX6_stepWord_47 bp_117 ?_
      refine GG.bipush C dX6_stepWord_49 bp_116 ?_
      refine GG.iconst C dX6_stepWord_51 ic_0 ?_
      refine GG.iconst C dX6_stepWord_52 ic_0 ?_
      refine GG.iconst C dX6_stepWord_53 ic_0 ?_
      obtain ⟨v7, hv7, hf⟩ := obd_some hf
      refine GG.c_X6_148 C rfl (gX6_spelled hv7) ⟨Nat.le_of_ble_eq_true rfl, Nat.le_of_ble_eq_true rfl⟩ ⟨Nat.le_of_ble_eq_true rfl, Nat.le_of_ble_eq_true rfl⟩ (Nat.le_of_ble_eq_true rfl) dX6_stepWord_54 ?_
      obtain ⟨v8, hv8, hf⟩ := obd_some hf
      refine GG.c_X6_152 C rfl (gX6_isWord hv8) ⟨Nat.le_of_ble_eq_true rfl, Nat.le_of_ble_eq_true rfl⟩ ⟨Nat.le_of_ble_eq_true rfl, Nat.le_of_ble_eq_true rfl⟩ (Nat.le_of_ble_eq_true rfl) dX6_stepWord_57 ?_
      refine GG.if_eq C (tgt := 65) dX6_stepWord_60 (by decide) (fun c9 => ?_) (fun c9 => ?_)
      · have hf := if_t hf c9
        refine GG.aload_n C dX6_stepWord_65 0 rfl ?_
        refine GG.bipush C dX6_stepWord_66 bp_112 ?_
        refine GG.bipush C dX6_stepWord_68 bp_105 ?_
        refine GG.bipush C dX6_stepWord_70 bp_99 ?_
        refine GG.bipush C dX6_stepWord_72 bp_107 ?_
        refine GG.iconst C dX6_stepWord_74 ic_0 ?_
        refine GG.iconst C dX6_stepWord_75 ic_0 ?_
        obtain ⟨v10, hv10, hf⟩ := obd_some hf
        refine GG.c_X6_148 C rfl (gX6_spelled hv10) ⟨Nat.le_of_ble_eq_true rfl, Nat.le_of_ble_eq_true rfl⟩ ⟨Nat.le_of_ble_eq_true rfl, Nat.le_of_ble_eq_true rfl⟩ (Nat.le_of_ble_eq_true rfl) dX6_stepWord_76 ?_
        obtain ⟨v11, hv11, hf⟩ := obd_some hf
        refine GG.c_X6_152 C rfl (gX6_isWord hv11) ⟨Nat.le_of_ble_eq_true rfl, Nat.le_of_ble_eq_true rfl⟩ ⟨Nat.le_of_ble_eq_true rfl, Nat.le_of_ble_eq_true rfl⟩ (Nat.le_of_ble_eq_true rfl) dX6_stepWord_79 ?_
        refine GG.if_eq C (tgt := 87) dX6_stepWord_82 (by decide) (fun c12 => ?_) (fun c12 => ?_)
        · have hf := if_t hf c12
          refine GG.aload_n C dX6_stepWord_87 0 rfl ?_
          refine GG.bipush C dX6_stepWord_88 bp_119 ?_
          refine GG.bipush C dX6_stepWord_90 bp_97 ?_
          refine GG.bipush C dX6_stepWord_92 bp_105 ?_
          refine GG.bipush C dX6_stepWord_94 bp_116 ?_
          refine GG.iconst C dX6_stepWord_96 ic_0 ?_
          refine GG.iconst C dX6_stepWord_97 ic_0 ?_
          obtain ⟨v13, hv13, hf⟩ := obd_some hf
          refine GG.c_X6_148 C rfl (gX6_spelled hv13) ⟨Nat.le_of_ble_eq_true rfl, Nat.le_of_ble_eq_true rfl⟩ ⟨Nat.le_of_ble_eq_true rfl, Nat.le_of_ble_eq_true rfl⟩ (Nat.le_of_ble_eq_true rfl) dX6_stepWord_98 ?_
          obtain ⟨v14, hv14, hf⟩ := obd_some hf
          refine GG.c_X6_152 C rfl (gX6_isWord hv14) ⟨Nat.le_of_ble_eq_true rfl, Nat.le_of_ble_eq_true rfl⟩ ⟨Nat.le_of_ble_eq_true rfl, Nat.le_of_ble_eq_true rfl⟩ (Nat.le_of_ble_eq_true rfl) dX6_stepWord_101 ?_
          refine GG.if_eq C (tgt := 109) dX6_stepWord_104 (by decide) (fun c15 => ?_) (fun c15 => ?_)
          · have hf := if_t hf c15
            refine GG.aload_n C dX6_stepWord_109 0 rfl ?_
            refine GG.bipush C dX6_stepWord_110 bp_100 ?_
            refine GG.bipush C dX6_stepWord_112 bp_114 ?_
            refine GG.bipush C dX6_stepWord_114 bp_97 ?_
            refine GG.bipush C dX6_stepWord_116 bp_119 ?_
            refine GG.iconst C dX6_stepWord_118 ic_0 ?_
            refine GG.iconst C dX6_stepWord_119 ic_0 ?_
            obtain ⟨v16, hv16, hf⟩ := obd_some hf
            refine GG.c_X6_148 C rfl (gX6_spelled hv16) ⟨Nat.le_of_ble_eq_true rfl, Nat.le_of_ble_eq_true rfl⟩ ⟨Nat.le_of_ble_eq_true rfl, Nat.le_of_ble_eq_true rfl⟩ (Nat.le_of_ble_eq_true rfl) dX6_stepWord_120 ?_
            obtain ⟨v17, hv17, hf⟩ := obd_some hf
            refine GG.c_X6_152 C rfl (gX6_isWord hv17) ⟨Nat.le_of_ble_eq_true rfl, Nat.le_of_ble_eq_true rfl⟩ ⟨Nat.le_of_ble_eq_true rfl, Nat.le_of_ble_eq_true rfl⟩ (Nat.le_of_ble_eq_true rfl) dX6_stepWord_123 ?_
            refine GG.if_eq C (tgt := 131) dX6_stepWord_126 (by decide) (fun c18 => ?_) (fun c18 => ?_)
            · have hf := if_t hf c18
              refine GG.aload_n C dX6_stepWord_131 0 rfl ?_
              refine GG.bipush C dX6_stepWord_132 bp_119 ?_
              refine GG.bipush C dX6_stepWord_134 bp_104 ?_
              refine GG.bipush C dX6_stepWord_136 bp_101 ?_
              refine GG.bipush C dX6_stepWord_138 bp_110 ?_
              refine GG.iconst C dX6_stepWord_140 ic_0 ?_
              refine GG.iconst C dX6_stepWord_141 ic_0 ?_
              obtain ⟨v19, hv19, hf⟩ := obd_some hf
              refine GG.c_X6_148 C rfl (gX6_spelled hv19) ⟨Nat.le_of_ble_eq_true rfl, Nat.le_of_ble_eq_true rfl⟩ ⟨Nat.le_of_ble_eq_true rfl, Nat.le_of_ble_eq_true rfl⟩ (Nat.le_of_ble_eq_true rfl) dX6_stepWord_142 ?_
              obtain ⟨v20, hv20, hf⟩ := obd_some hf
              refine GG.c_X6_152 C rfl (gX6_isWord hv20) ⟨Nat.le_of_ble_eq_true rfl, Nat.le_of_ble_eq_true rfl⟩ ⟨Nat.le_of_ble_eq_true rfl, Nat.le_of_ble_eq_true rfl⟩ (Nat.le_of_ble_eq_true rfl) dX6_stepWord_145 ?_
              refine GG.if_eq C (tgt := 154) dX6_stepWord_148 (by decide) (fun c21 => ?_) (fun c21 => ?_)
              · have hf := if_t hf c21
                refine GG.aload_n C dX6_stepWord_154 0 rfl ?_
                refine GG.bipush C dX6_stepWord_155 bp_108 ?_
                refine GG.bipush C dX6_stepWord_157 bp_111 ?_
                refine GG.bipush C dX6_stepWord_159 bp_111 ?_
                refine GG.bipush C dX6_stepWord_161 bp_112 ?_
                refine GG.iconst C dX6_stepWord_163 ic_0 ?_
                refine GG.iconst C dX6_stepWord_164 ic_0 ?_
                obtain ⟨v22, hv22, hf⟩ := obd_some hf
                refine GG.c_X6_148 C rfl (gX6_spelled hv22) ⟨Nat.le_of_ble_eq_true rfl, Nat.le_of_ble_eq_true rfl⟩ ⟨Nat.le_of_ble_eq_true rfl, Nat.le_of_ble_eq_true rfl⟩ (Nat.le_of_ble_eq_true rfl) dX6_stepWord_165 ?_
                obtain ⟨v23, hv23, hf⟩ := obd_some hf
                refine GG.c_X6_152 C rfl (gX6_isWord hv23) ⟨Nat.le_of_ble_eq_true rfl, Nat.le_of_ble_eq_true rfl⟩ ⟨Nat.le_of_ble_eq_true rfl, Nat.le_of_ble_eq_true rfl⟩ (Nat.le_of_ble_eq_true rfl) dX6_stepWord_168 ?_
                refine GG.if_eq C (tgt := 177) dX6_stepWord_171 (by decide) (fun c24 => ?_) (fun c24 => ?_)
                · have hf := if_t hf c24
                  refine GG.aload_n C dX6_stepWord_177 0 rfl ?_
                  refine GG.bipush C dX6_stepWord_178 bp_115 ?_
                  refine GG.bipush C dX6_stepWord_180 bp_116 ?_
                  refine GG.bipush C dX6_stepWord_182 bp_111 ?_
                  refine GG.bipush C dX6_stepWord_184 bp_112 ?_
                  refine GG.iconst C dX6_stepWord_186 ic_0 ?_
                  refine GG.iconst C dX6_stepWord_187 ic_0 ?_
                  obtain ⟨v25, hv25, hf⟩ := obd_some hf
                  refine GG.c_X6_148 C rfl (gX6_spelled hv25) ⟨Nat.le_of_ble_eq_true rfl, Nat.le_of_ble_eq_true rfl⟩ ⟨Nat.le_of_ble_eq_true rfl, Nat.le_of_ble_eq_true rfl⟩ (Nat.le_of_ble_eq_true rfl) dX6_stepWord_188 ?_
                  obtain ⟨v26, hv26, hf⟩ := obd_some hf
                  refine GG.c_X6_152 C rfl (gX6_isWord hv26) ⟨Nat.le_of_ble_eq_true rfl, Nat.le_of_ble_eq_true rfl⟩ ⟨Nat.le_of_ble_eq_true rfl, Nat.le_of_ble_eq_true rfl⟩ (Nat.le_of_ble_eq_true rfl) dX6_stepWord_191 ?_
                  refine GG.if_eq C (tgt := 202) dX6_stepWord_194 (by decide) (fun c27 => ?_) (fun c27 => ?_)
                  · have hf := if_t hf c27
                    refine GG.iconst C dX6_stepWord_202 ic_m1 ?_
                    have hf := Option.some.inj hf
                    subst hf
                    exact GG.iret C E dX6_stepWord_203
                  · have hf := if_f hf c27
                    refine GG.bipush C dX6_stepWord_197 bp_8 ?_
                    refine GG.goto C (tgt := 203) dX6_stepWord_199 (by decide) ?_
                    have hf := Option.some.inj hf
                    subst hf
                    exact GG.iret C E dX6_stepWord_203
                · have hf := if_f hf c24
                  refine GG.bipush C dX6_stepWord_174 bp_7 ?_
                  have hf := Option.some.inj hf
                  subst hf
                  exact GG.iret C E dX6_stepWord_176
              · have hf := if_f hf c21
                refine GG.bipush C dX6_stepWord_151 bp_6 ?_
                have hf := Option.some.inj hf
                subst hf
                exact GG.iret C E dX6_stepWord_153
            · have hf := if_f hf c18
              refine GG.iconst C dX6_stepWord_129 ic_5 ?_
              have hf := Option.some.inj hf
              subst hf
              exact GG.iret C E dX6_stepWord_130
          · have hf := if_f hf c15
            refine GG.iconst C dX6_stepWord_107 ic_4 ?_
            have hf := Option.some.inj hf
            subst hf
            exact GG.iret C E dX6_stepWord_108
        · have hf := if_f hf c12
          refine GG.iconst C dX6_stepWord_85 ic_3 ?_
          have hf := Option.some.inj hf
          subst hf
          exact GG.iret C E dX6_stepWord_86
      · have hf := if_f hf c9
        refine GG.iconst C dX6_stepWord_63 ic_2 ?_
        have hf := Option.some.inj hf
        subst hf
        exact GG.iret C E dX6_stepWord_64
    · have hf := if_f hf c6
      refine GG.iconst C dX6_stepWord_42 ic_1 ?_
      have hf := Option.some.inj hf
      subst hf
      exact GG.iret C E dX6_stepWord_43
  · have hf := if_f hf c3
    refine GG.iconst C dX6_stepWord_20 ic_0 ?_
    have hf := Option.some.inj hf
    subst hf
    exact GG.iret C E dX6_stepWord_21
theorem gX6_isAt {K : gK} {M : XS}  {S : MS} {o : Int32} (hf : fX6_isAt S = some o) : gMet K yX6_isAt cX6_isAt 1 (some Jvm.ClassFile.FieldType.boolean) rX6_isAt [(.ref (kh K))] M (some S) (some (.int o)) M (some S) := by
  refine gMet.of pn_X6 (Nat.le_of_ble_eq_true rfl) fun X C E => ?_
  unfold fX6_isAt at hf
  show GG K X 1 0 0 M (some S) 0 [(0, .ref (kh K))] []
  refine GG.aload_n C dX6_isAt_0 0 rfl ?_
  refine GG.bipush C dX6_isAt_1 bp_97 ?_
  refine GG.bipush C dX6_isAt_3 bp_116 ?_
  refine GG.iconst C dX6_isAt_5 ic_0 ?_
  refine GG.iconst C dX6_isAt_6 ic_0 ?_
  refine GG.iconst C dX6_isAt_7 ic_0 ?_
  refine GG.iconst C dX6_isAt_8 ic_0 ?_
  obtain ⟨v1, hv1, hf⟩ := obd_some hf
  refine GG.c_X6_148 C rfl (gX6_spelled hv1) ⟨Nat.le_of_ble_eq_true rfl, Nat.le_of_ble_eq_true rfl⟩ ⟨Nat.le_of_ble_eq_true rfl, Nat.le_of_ble_eq_true rfl⟩ (Nat.le_of_ble_eq_true rfl) dX6_isAt_9 ?_
  obtain ⟨v2, hv2, hf⟩ := obd_some hf
  refine GG.c_X6_152 C rfl (gX6_isWord hv2) ⟨Nat.le_of_ble_eq_true rfl, Nat.le_of_ble_eq_true rfl⟩ ⟨Nat.le_of_ble_eq_true rfl, Nat.le_of_ble_eq_true rfl⟩ (Nat.le_of_ble_eq_true rfl) dX6_isAt_12 ?_
  obtain ⟨c3, hf⟩ := gd_some hf
  have hf := Option.some.inj hf
  subst hf
  exact GG.zret C c3 E dX6_isAt_15
theorem gX6_isTo {K : gK} {M : XS}  {S : MS} {o : Int32} (hf : fX6_isTo S = some o) : gMet K yX6_isTo cX6_isTo 1 (some Jvm.ClassFile.FieldType.boolean) rX6_isTo [(.ref (kh K))] M (some S) (some (.int o)) M (some S) := by
  refine gMet.of pn_X6 (Nat.le_of_ble_eq_true rfl) fun X C E => ?_
  unfold fX6_isTo at hf
  show GG K X 1 0 0 M (some S) 0 [(0, .ref (kh K))] []
  refine GG.aload_n C dX6_isTo_0 0 rfl ?_
  refine GG.bipush C dX6_isTo_1 bp_116 ?_
  refine GG.bipush C dX6_isTo_3 bp_111 ?_
  refine GG.iconst C dX6_isTo_5 ic_0 ?_
  refine GG.iconst C dX6_isTo_6 ic_0 ?_
  refine GG.iconst C dX6_isTo_7 ic_0 ?_
  refine GG.iconst C dX6_isTo_8 ic_0 ?_
  obtain ⟨v1, hv1, hf⟩ := obd_some hf
  refine GG.c_X6_148 C rfl (gX6_spelled hv1) ⟨Nat.le_of_ble_eq_true rfl, Nat.le_of_ble_eq_true rfl⟩ ⟨Nat.le_of_ble_eq_true rfl, Nat.le_of_ble_eq_true rfl⟩ (Nat.le_of_ble_eq_true rfl) dX6_isTo_9 ?_
  obtain ⟨v2, hv2, hf⟩ := obd_some hf
  refine GG.c_X6_152 C rfl (gX6_isWord hv2) ⟨Nat.le_of_ble_eq_true rfl, Nat.le_of_ble_eq_true rfl⟩ ⟨Nat.le_of_ble_eq_true rfl, Nat.le_of_ble_eq_true rfl⟩ (Nat.le_of_ble_eq_true rfl) dX6_isTo_12 ?_
  obtain ⟨c3, hf⟩ := gd_some hf
  have hf := Option.some.inj hf
  subst hf
  exact GG.zret C c3 E dX6_isTo_15
theorem gX6_isLate {K : gK} {M : XS}  {S : MS} {o : Int32} (hf : fX6_isLate S = some o) : gMet K yX6_isLate cX6_isLate 1 (some Jvm.ClassFile.FieldType.boolean) rX6_isLate [(.ref (kh K))] M (some S) (some (.int o)) M (some S) := by
  refine gMet.of pn_X6 (Nat.le_of_ble_eq_true rfl) fun X C E => ?_
  unfold fX6_isLate at hf
  show GG K X 1 0 0 M (some S) 0 [(0, .ref (kh K))] []
  refine GG.aload_n C dX6_isLate_0 0 rfl ?_
  refine GG.bipush C dX6_isLate_1 bp_108 ?_
  refine GG.bipush C dX6_isLate_3 bp_97 ?_
  refine GG.bipush C dX6_isLate_5 bp_116 ?_
  refine GG.bipush C dX6_isLate_7 bp_101 ?_
  refine GG.iconst C dX6_isLate_9 ic_0 ?_
  refine GG.iconst C dX6_isLate_10 ic_0 ?_
  obtain ⟨v1, hv1, hf⟩ := obd_some hf
  refine GG.c_X6_148 C rfl (gX6_spelled hv1) ⟨Nat.le_of_ble_eq_true rfl, Nat.le_of_ble_eq_true rfl⟩ ⟨Nat.le_of_ble_eq_true rfl, Nat.le_of_ble_eq_true rfl⟩ (Nat.le_of_ble_eq_true rfl) dX6_isLate_11 ?_
  obtain ⟨v2, hv2, hf⟩ := obd_some hf
  refine GG.c_X6_152 C rfl (gX6_isWord hv2) ⟨Nat.le_of_ble_eq_true rfl, Nat.le_of_ble_eq_true rfl⟩ ⟨Nat.le_of_ble_eq_true rfl, Nat.le_of_ble_eq_true rfl⟩ (Nat.le_of_ble_eq_true rfl) dX6_isLate_14 ?_
  obtain ⟨c3, hf⟩ := gd_some hf
  have hf := Option.some.inj hf
  subst hf
  exact GG.zret C c3 E dX6_isLate_17
theorem gX6_isTwice {K : gK} {M : XS}  {S : MS} {o : Int32} (hf : fX6_isTwice S = some o) : gMet K yX6_isTwice cX6_isTwice 1 (some Jvm.ClassFile.FieldType.boolean) rX6_isTwice [(.ref (kh K))] M (some S) (some (.int o)) M (some S) := by
  refine gMet.of pn_X6 (Nat.le_of_ble_eq_true rfl) fun X C E => ?_
  unfold fX6_isTwice at hf
  show GG K X 1 0 0 M (some S) 0 [(0, .ref (kh K))] []
  refine GG.aload_n C dX6_isTwice_0 0 rfl ?_
  refine GG.bipush C dX6_isTwice_1 bp_116 ?_
  refine GG.bipush C dX6_isTwice_3 bp_119 ?_
  refine GG.bipush C dX6_isTwice_5 bp_105 ?_
  refine GG.bipush C dX6_isTwice_7 bp_99 ?_
  refine GG.bipush C dX6_isTwice_9 bp_101 ?_
  refine GG.iconst C dX6_isTwice_11 ic_0 ?_
  obtain ⟨v1, hv1, hf⟩ := obd_some hf
  refine GG.c_X6_148 C rfl (gX6_spelled hv1) ⟨Nat.le_of_ble_eq_true rfl, Nat.le_of_ble_eq_true rfl⟩ ⟨Nat.le_of_ble_eq_true rfl, Nat.le_of_ble_eq_true rfl⟩ (Nat.le_of_ble_eq_true rfl) dX6_isTwice_12 ?_
  obtain ⟨v2, hv2, hf⟩ := obd_some hf
  refine GG.c_X6_152 C rfl (gX6_isWord hv2) ⟨Nat.le_of_ble_eq_true rfl, Nat.le_of_ble_eq_true rfl⟩ ⟨Nat.le_of_ble_eq_true rfl, Nat.le_of_ble_eq_true rfl⟩ (Nat.le_of_ble_eq_true rfl) dX6_isTwice_15 ?_
  obtain ⟨c3, hf⟩ := gd_some hf
  have hf := Option.some.inj hf
  subst hf
  exact GG.zret C c3 E dX6_isTwice_18
theorem gX6_isHas {K : gK} {M : XS}  {S : MS} {o : Int32} (hf : fX6_isHas S = some o) : gMet K yX6_isHas cX6_isHas 1 (some Jvm.ClassFile.FieldType.boolean) rX6_isHas [(.ref (kh K))] M (some S) (some (.int o)) M (some S) := by
  refine gMet.of pn_X6 (Nat.le_of_ble_eq_true rfl) fun X C E => ?_
  unfold fX6_isHas at hf
  show GG K X 1 0 0 M (some S) 0 [(0, .ref (kh K))] []
  refine GG.aload_n C dX6_isHas_0 0 rfl ?_
  refine GG.bipush C dX6_isHas_1 bp_104 ?_
  refine GG.bipush C dX6_isHas_3 bp_97 ?_
  refine GG.bipush C dX6_isHas_5 bp_115 ?_
  refine GG.iconst C dX6_isHas_7 ic_0 ?_
  refine GG.iconst C dX6_isHas_8 ic_0 ?_
  refine GG.iconst C dX6_isHas_9 ic_0 ?_
  obtain ⟨v1, hv1, hf⟩ := obd_some hf
  refine GG.c_X6_148 C rfl (gX6_spelled hv1) ⟨Nat.le_of_ble_eq_true rfl, Nat.le_of_ble_eq_true rfl⟩ ⟨Nat.le_of_ble_eq_true rfl, Nat.le_of_ble_eq_true rfl⟩ (Nat.le_of_ble_eq_true rfl) dX6_isHas_10 ?_
  obtain ⟨v2, hv2, hf⟩ := obd_some hf
  refine GG.c_X6_152 C rfl (gX6_isWord hv2) ⟨Nat.le_of_ble_eq_true rfl, Nat.le_of_ble_eq_true rfl⟩ ⟨Nat.le_of_ble_eq_true rfl, Nat.le_of_ble_eq_true rfl⟩ (Nat.le_of_ble_eq_true rfl) dX6_isHas_13 ?_
  obtain ⟨c3, hf⟩ := gd_some hf
  have hf := Option.some.inj hf
  subst hf
  exact GG.zret C c3 E dX6_isHas_16
theorem gX6_isQuietWord {K : gK} {M : XS}  {S : MS} {o : Int32} (hf : fX6_isQuietWord S = some o) : gMet K yX6_isQuietWord cX6_isQuietWord 1 (some Jvm.ClassFile.FieldType.boolean) rX6_isQuietWord [(.ref (kh K))] M (some S) (some (.int o)) M (some S) := by
  refine gMet.of pn_X6 (Nat.le_of_ble_eq_true rfl) fun X C E => ?_
  unfold fX6_isQuietWord at hf
  show GG K X 1 0 0 M (some S) 0 [(0, .ref (kh K))] []
  refine GG.aload_n C dX6_isQuietWord_0 0 rfl ?_
  refine GG.bipush C dX6_isQuietWord_1 bp_113 ?_
  refine GG.bipush C dX6_isQuietWord_3 bp_117 ?_
  refine GG.bipush C dX6_isQuietWord_5 bp_105 ?_
  refine GG.bipush C dX6_isQuietWord_7 bp_101 ?_
  refine GG.bipush C dX6_isQuietWord_9 bp_116 ?_
  refine GG.iconst C dX6_isQuietWord_11 ic_0 ?_
  obtain ⟨v1, hv1, hf⟩ := obd_some hf
  refine GG.c_X6_148 C rfl (gX6_spelled hv1) ⟨Nat.le_of_ble_eq_true rfl, Nat.le_of_ble_eq_true rfl⟩ ⟨Nat.le_of_ble_eq_true rfl, Nat.le_of_ble_eq_true rfl⟩ (Nat.le_of_ble_eq_true rfl) dX6_isQuietWord_12 ?_
  obtain ⟨v2, hv2, hf⟩ := obd_some hf
  refine GG.c_X6_152 C rfl (gX6_isWord hv2) ⟨Nat.le_of_ble_eq_true rfl, Nat.le_of_ble_eq_true rfl⟩ ⟨Nat.le_of_ble_eq_true rfl, Nat.le_of_ble_eq_true rfl⟩ (Nat.le_of_ble_eq_true rfl) dX6_isQuietWord_15 ?_
  obtain ⟨c3, hf⟩ := gd_some hf
  have hf := Option.some.inj hf
  subst hf
  exact GG.zret C c3 E dX6_isQuietWord_18
theorem gX6_isDayWord {K : gK} {M : XS}  {S : MS} {o : Int32} (hf : fX6_isDayWord S = some o) : gMet K yX6_isDayWord cX6_isDayWord 1 (some Jvm.ClassFile.FieldType.boolean) rX6_isDayWord [(.ref (kh K))] M (some S) (some (.int o)) M (some S) := by
  refine gMet.of pn_X6 (Nat.le_of_ble_eq_true rfl) fun X C E => ?_
  unfold fX6_isDayWord at hf
  show GG K X 1 0 0 M (some S) 0 [(0, .ref (kh K))] []
  refine GG.aload_n C dX6_isDayWord_0 0 rfl ?_
  refine GG.bipush C dX6_isDayWord_1 bp_100 ?_
  refine GG.bipush C dX6_isDayWord_3 bp_97 ?_
  refine GG.bipush C dX6_isDayWord_5 bp_121 ?_
  refine GG.iconst C dX6_isDayWord_7 ic_0 ?_
  refine GG.iconst C dX6_isDayWord_8 ic_0 ?_
  refine GG.iconst C dX6_isDayWord_9 ic_0 ?_
  obtain ⟨v1, hv1, hf⟩ := obd_some hf
  refine GG.c_X6_148 C rfl (gX6_spelled hv1) ⟨Nat.le_of_ble_eq_true rfl, Nat.le_of_ble_eq_true rfl⟩ ⟨Nat.le_of_ble_eq_true rfl, Nat.le_of_ble_eq_true rfl⟩ (Nat.le_of_ble_eq_true rfl) dX6_isDayWord_10 ?_
  obtain ⟨v2, hv2, hf⟩ := obd_some hf
  refine GG.c_X6_152 C rfl (gX6_isWord hv2) ⟨Nat.le_of_ble_eq_true rfl, Nat.le_of_ble_eq_true rfl⟩ ⟨Nat.le_of_ble_eq_true rfl, Nat.le_of_ble_eq_true rfl⟩ (Nat.le_of_ble_eq_true rfl) dX6_isDayWord_13 ?_
  obtain ⟨c3, hf⟩ := gd_some hf
  have hf := Option.some.inj hf
  subst hf
  exact GG.zret C c3 E dX6_isDayWord_16
theorem gX6_isEnd {K : gK} {M : XS}  {S : MS} {o : Int32} (hf : fX6_isEnd S = some o) : gMet K yX6_isEnd cX6_isEnd 1 (some Jvm.ClassFile.FieldType.boolean) rX6_isEnd [(.ref (kh K))] M (some S) (some (.int o)) M (some S) := by
  refine gMet.of pn_X6 (Nat.le_of_ble_eq_true rfl) fun X C E => ?_
  unfold fX6_isEnd at hf
  show GG K X 1 0 0 M (some S) 0 [(0, .ref (kh K))] []
  refine GG.aload_n C dX6_isEnd_0 0 rfl ?_
  refine GG.bipush C dX6_isEnd_1 bp_101 ?_
  refine GG.bipush C dX6_isEnd_3 bp_110 ?_
  refine GG.bipush C dX6_isEnd_5 bp_100 ?_
  refine GG.iconst C dX6_isEnd_7 ic_0 ?_
  refine GG.iconst C dX6_isEnd_8 ic_0 ?_
  refine GG.iconst C dX6_isEnd_9 ic_0 ?_
  obtain ⟨v1, hv1, hf⟩ := obd_some hf
  refine GG.c_X6_148 C rfl (gX6_spelled hv1) ⟨Nat.le_of_ble_eq_true rfl, Nat.le_of_ble_eq_true rfl⟩ ⟨Nat.le_of_ble_eq_true rfl, Nat.le_of_ble_eq_true rfl⟩ (Nat.le_of_ble_eq_true rfl) dX6_isEnd_10 ?_
  obtain ⟨v2, hv2, hf⟩ := obd_some hf
  refine GG.c_X6_152 C rfl (gX6_isWord hv2) ⟨Nat.le_of_ble_eq_true rfl, Nat.le_of_ble_eq_true rfl⟩ ⟨Nat.le_of_ble_eq_true rfl, Nat.le_of_ble_eq_true rfl⟩ (Nat.le_of_ble_eq_true rfl) dX6_isEnd_13 ?_
  obtain ⟨c3, hf⟩ := gd_some hf
  have hf := Option.some.inj hf
  subst hf
  exact GG.zret C c3 E dX6_isEnd_16
theorem gX6_isKept {K : gK} {M : XS}  {S : MS} {o : Int32} (hf : fX6_isKept S = some o) : gMet K yX6_isKept cX6_isKept 1 (some Jvm.ClassFile.FieldType.boolean) rX6_isKept [(.ref (kh K))] M (some S) (some (.int o)) M (some S) := by
  refine gMet.of pn_X6 (Nat.le_of_ble_eq_true rfl) fun X C E => ?_
  unfold fX6_isKept at hf
  show GG K X 1 0 0 M (some S) 0 [(0, .ref (kh K))] []
  refine GG.aload_n C dX6_isKept_0 0 rfl ?_
  obtain ⟨v1, hv1, hf⟩ := obd_some hf
  refine GG.c_X6_156 C rfl (gX6_isIslandWord hv1) ⟨Nat.le_of_ble_eq_true rfl, Nat.le_of_ble_eq_true rfl⟩ ⟨Nat.le_of_ble_eq_true rfl, Nat.le_of_ble_eq_true rfl⟩ (Nat.le_of_ble_eq_true rfl) dX6_isKept_1 ?_
  refine GG.if_ne C (tgt := 56) dX6_isKept_4 (by decide) (fun c2 => ?_) (fun c2 => ?_)
  · have hf := if_f hf c2
    refine GG.iconst C dX6_isKept_56 ic_1 ?_
    have hf := Option.some.inj hf
    subst hf
    exact GG.zret C zb_1 E dX6_isKept_57
  · have hf := if_t hf c2
    refine GG.aload_n C dX6_isKept_7 0 rfl ?_
    obtain ⟨v3, hv3, hf⟩ := obd_some hf
    refine GG.c_X6_160 C rfl (gX6_kindWord hv3) ⟨Nat.le_of_ble_eq_true rfl, Nat.le_of_ble_eq_true rfl⟩ ⟨Nat.le_of_ble_eq_true rfl, Nat.le_of_ble_eq_true rfl⟩ (Nat.le_of_ble_eq_true rfl) dX6_isKept_8 ?_
    refine GG.if_ge C (tgt := 56) dX6_isKept_11 (by decide) (fun c4 => ?_) (fun c4 => ?_)
    · have hf := if_t hf c4
      refine GG.iconst C dX6_isKept_56 ic_1 ?_
      have hf := Option.some.inj hf
      subst hf
      exact GG.zret C zb_1 E dX6_isKept_57
    · have hf := if_f hf c4
      refine GG.aload_n C dX6_isKept_14 0 rfl ?_
      obtain ⟨v5, hv5, hf⟩ := obd_some hf
      refine GG.c_X6_164 C rfl (gX6_isKey hv5) ⟨Nat.le_of_ble_eq_true rfl, Nat.le_of_ble_eq_true rfl⟩ ⟨Nat.le_of_ble_eq_true rfl, Nat.le_of_ble_eq_true rfl⟩ (Nat.le_of_ble_eq_true rfl) dX6_isKept_15 ?_
      refine GG.if_ne C (tgt := 56) dX6_isKept_18 (by decide) (fun c6 => ?_) (fun c6 => ?_)
      · have hf := if_f hf c6
        refine GG.iconst C dX6_isKept_56 ic_1 ?_
        have hf := Option.some.inj hf
        subst hf
        exact GG.zret C zb_1 E dX6_isKept_57
      · have hf := if_t hf c6
        refine GG.aload_n C dX6_isKept_21 0 rfl ?_
        obtain ⟨v7, hv7, hf⟩ := obd_some hf
        refine GG.c_X6_167 C rfl (gX6_isSays hv7) ⟨Nat.le_of_ble_eq_true rfl, Nat.le_of_ble_eq_true rfl⟩ ⟨Nat.le_of_ble_eq_true rfl, Nat.le_of_ble_eq_true rfl⟩ (Nat.le_of_ble_eq_true rfl) dX6_isKept_22 ?_
        refine GG.if_ne C (tgt := 56) dX6_isKept_25 (by decide) (fun c8 => ?_) (fun c8 => ?_)
        · have hf := if_f hf c8
          refine GG.iconst C dX6_isKept_56 ic_1 ?_
          have hf := Option.some.inj hf
          subst hf
          exact GG.zret C zb_1 E dX6_isKept_57
        · have hf := if_t hf c8
          refine GG.aload_n C dX6_isKept_28 0 rfl ?_
          obtain ⟨v9, hv9, hf⟩ := obd_some hf
          refine GG.c_X6_170 C rfl (gX6_isOf hv9) ⟨Nat.le_of_ble_eq_true rfl, Nat.le_of_ble_eq_true rfl⟩ ⟨Nat.le_of_ble_eq_true rfl, Nat.le_of_ble_eq_true rfl⟩ (Nat.le_of_ble_eq_true rfl) dX6_isKept_29 ?_
          refine GG.if_ne C (tgt := 56) dX6_isKept_32 (by decide) (fun c10 => ?_) (fun c10 => ?_)
          · have hf := if_f hf c10
            refine GG.iconst C dX6_isKept_56 ic_1 ?_
            have hf := Option.some.inj hf
            subst hf
            exact GG.zret C zb_1 E dX6_isKept_57
          · have hf := if_t hf c10
            refine GG.aload_n C dX6_isKept_35 0 rfl ?_
            obtain ⟨v11, hv11, hf⟩ := obd_some hf
            refine GG.c_X6_173 C rfl (gX6_isNot hv11) ⟨Nat.le_of_ble_eq_true rfl, Nat.le_of_ble_eq_true rfl⟩ ⟨Nat.le_of_ble_eq_true rfl, Nat.le_of_ble_eq_true rfl⟩ (Nat.le_of_ble_eq_true rfl) dX6_isKept_36 ?_
            refine GG.if_ne C (tgt := 56) dX6_isKept_39 (by decide) (fun c12 => ?_) (fun c12 => ?_)
            · have hf := if_f hf c12
              refine GG.iconst C dX6_isKept_56 ic_1 ?_
              have hf := Option.some.inj hf
              subst hf
              exact GG.zret C zb_1 E dX6_isKept_57
            · have hf := if_t hf c12
              refine GG.aload_n C dX6_isKept_42 0 rfl ?_
              obtain ⟨v13, hv13, hf⟩ := obd_some hf
              refine GG.c_X6_176 C rfl (gX6_isAfter hv13) ⟨Nat.le_of_ble_eq_true rfl, Nat.le_of_ble_eq_true rfl⟩ ⟨Nat.le_of_ble_eq_true rfl, Nat.le_of_ble_eq_true rfl⟩ (Nat.le_of_ble_eq_true rfl) dX6_isKept_43 ?_
              refine GG.if_ne C (tgt := 56) dX6_isKept_46 (by decide) (fun c14 => ?_) (fun c14 => ?_)
              · have hf := if_f hf c14
                refine GG.iconst C dX6_isKept_56 ic_1 ?_
                have hf := Option.some.inj hf
                subst hf
                exact GG.zret C zb_1 E dX6_isKept_57
              · have hf := if_t hf c14
                refine GG.aload_n C dX6_isKept_49 0 rfl ?_
                obtain ⟨v15, hv15, hf⟩ := obd_some hf
                refine GG.c_X6_179 C rfl (gX6_stepWord hv15) ⟨Nat.le_of_ble_eq_true rfl, Nat.le_of_ble_eq_true rfl⟩ ⟨Nat.le_of_ble_eq_true rfl, Nat.le_of_ble_eq_true rfl⟩ (Nat.le_of_ble_eq_true rfl) dX6_isKept_50 ?_
                refine GG.if_lt C (tgt := 58) dX6_isKept_53 (by decide) (fun c16 => ?_) (fun c16 => ?_)
                · have hf := if_t hf c16
                  refine GG.aload_n C dX6_isKept_58 0 rfl ?_
                  obtain ⟨v17, hv17, hf⟩ := obd_some hf
                  refine GG.c_X6_182 C rfl (gX6_isAt hv17) ⟨Nat.le_of_ble_eq_true rfl, Nat.le_of_ble_eq_true rfl⟩ ⟨Nat.le_of_ble_eq_true rfl, Nat.le_of_ble_eq_true rfl⟩ (Nat.le_of_ble_eq_true rfl) dX6_isKept_59 ?_
                  refine GG.if_ne C (tgt := 114) dX6_isKept_62 (by decide) (fun c18 => ?_) (fun c18 => ?_)
                  · have hf := if_f hf c18
                    refine GG.iconst C dX6_isKept_114 ic_1 ?_
                    refine GG.goto C (tgt := 119) dX6_isKept_115 (by decide) ?_
                    have hf := Option.some.inj hf
                    subst hf
                    exact GG.zret C zb_1 E dX6_isKept_119
                  · have hf := if_t hf c18
                    refine GG.aload_n C dX6_isKept_65 0 rfl ?_
                    obtain ⟨v19, hv19, hf⟩ := obd_some hf
                    refine GG.c_X6_185 C rfl (gX6_isTo hv19) ⟨Nat.le_of_ble_eq_true rfl, Nat.le_of_ble_eq_true rfl⟩ ⟨Nat.le_of_ble_eq_true rfl, Nat.le_of_ble_eq_true rfl⟩ (Nat.le_of_ble_eq_true rfl) dX6_isKept_66 ?_
                    refine GG.if_ne C (tgt := 114) dX6_isKept_69 (by decide) (fun c20 => ?_) (fun c20 => ?_)
                    · have hf := if_f hf c20
                      refine GG.iconst C dX6_isKept_114 ic_1 ?_
                      refine GG.goto C (tgt := 119) dX6_isKept_115 (by decide) ?_
                      have hf := Option.some.inj hf
                      subst hf
                      exact GG.zret C zb_1 E dX6_isKept_119
                    · have hf := if_t hf c20
                      refine GG.aload_n C dX6_isKept_72 0 rfl ?_
                      obtain ⟨v21, hv21, hf⟩ := obd_some hf
                      refine GG.c_X6_188 C rfl (gX6_isLate hv21) ⟨Nat.le_of_ble_eq_true rfl, Nat.le_of_ble_eq_true rfl⟩ ⟨Nat.le_of_ble_eq_true rfl, Nat.le_of_ble_eq_true rfl⟩ (Nat.le_of_ble_eq_true rfl) dX6_isKept_73 ?_
                      refine GG.if_ne C (tgt := 114) dX6_isKept_76 (by decide) (fun c22 => ?_) (fun c22 => ?_)
                      · have hf := if_f hf c22
                        refine GG.iconst C dX6_isKept_114 ic_1 ?_
                        refine GG.goto C (tgt := 119) dX6_isKept_115 (by decide) ?_
                        have hf := Option.some.inj hf
                        subst hf
                        exact GG.zret C zb_1 E dX6_isKept_119
                      · have hf := if_t hf c22
                        refine GG.aload_n C dX6_isKept_79 0 rfl ?_
                        obtain ⟨v23, hv23, hf⟩ := obd_some hf
                        refine GG.c_X6_191 C rfl (gX6_isTwice hv23) ⟨Nat.le_of_ble_eq_true rfl, Nat.le_of_ble_eq_true rfl⟩ ⟨Nat.le_of_ble_eq_true rfl, Nat.le_of_ble_eq_true rfl⟩ (Nat.le_of_ble_eq_true rfl) dX6_isKept_80 ?_
                        refine GG.if_ne C (tgt := 114) dX6_isKept_83 (by decide) (fun c24 => ?_) (fun c24 => ?_)
                        · have hf := if_f hf c24
                          refine GG.iconst C dX6_isKept_114 ic_1 ?_
                          refine GG.goto C (tgt := 119) dX6_isKept_115 (by decide) ?_
                          have hf := Option.some.inj hf
                          subst hf
                          exact GG.zret C zb_1 E dX6_isKept_119
                        · have hf := if_t hf c24
                          refine GG.aload_n C dX6_isKept_86 0 rfl ?_
                          obtain ⟨v25, hv25, hf⟩ := obd_some hf
                          refine GG.c_X6_194 C rfl (gX6_isHas hv25) ⟨Nat.le_of_ble_eq_true rfl, Nat.le_of_ble_eq_true rfl⟩ ⟨Nat.le_of_ble_eq_true rfl, Nat.le_of_ble_eq_true rfl⟩ (Nat.le_of_ble_eq_true rfl) dX6_isKept_87 ?_
                          refine GG.if_ne C (tgt := 114) dX6_isKept_90 (by decide) (fun c26 => ?_) (fun c26 => ?_)
                          · have hf := if_f hf c26
                            refine GG.iconst C dX6_isKept_114 ic_1 ?_
                            refine GG.goto C (tgt := 119) dX6_isKept_115 (by decide) ?_
                            have hf := Option.some.inj hf
                            subst hf
                            exact GG.zret C zb_1 E dX6_isKept_119
                          · have hf := if_t hf c26
                            refine GG.aload_n C dX6_isKept_93 0 rfl ?_
                            obtain ⟨v27, hv27, hf⟩ := obd_some hf
                            refine GG.c_X6_197 C rfl (gX6_isQuietWord hv27) ⟨Nat.le_of_ble_eq_true rfl, Nat.le_of_ble_eq_true rfl⟩ ⟨Nat.le_of_ble_eq_true rfl, Nat.le_of_ble_eq_true rfl⟩ (Nat.le_of_ble_eq_true rfl) dX6_isKept_94 ?_
                            refine GG.if_ne C (tgt := 114) dX6_isKept_97 (by decide) (fun c28 => ?_) (fun c28 => ?_)
                            · have hf := if_f hf c28
                              refine GG.iconst C dX6_isKept_114 ic_1 ?_
                              refine GG.goto C (tgt := 119) dX6_isKept_115 (by decide) ?_
                              have hf := Option.some.inj hf
                              subst hf
                              exact GG.zret C zb_1 E dX6_isKept_119
                            · have hf := if_t hf c28
                              refine GG.aload_n C dX6_isKept_100 0 rfl ?_
                              obtain ⟨v29, hv29, hf⟩ := obd_some hf
                              refine GG.c_X6_200 C rfl (gX6_isDayWord hv29) ⟨Nat.le_of_ble_eq_true rfl, Nat.le_of_ble_eq_true rfl⟩ ⟨Nat.le_of_ble_eq_true rfl, Nat.le_of_ble_eq_true rfl⟩ (Nat.le_of_ble_eq_true rfl) dX6_isKept_101 ?_
                              refine GG.if_ne C (tgt := 114) dX6_isKept_104 (by decide) (fun c30 => ?_) (fun c30 => ?_)
                              · have hf := if_f hf c30
                                refine GG.iconst C dX6_isKept_114 ic_1 ?_
                                refine GG.goto C (tgt := 119) dX6_isKept_115 (by decide) ?_
                                have hf := Option.some.inj hf
                                subst hf
                                exact GG.zret C zb_1 E dX6_isKept_119
                              · have hf := if_t hf c30
                                refine GG.aload_n C dX6_isKept_107 0 rfl ?_
                                obtain ⟨v31, hv31, hf⟩ := obd_some hf
                                refine GG.c_X6_203 C rfl (gX6_isEnd hv31) ⟨Nat.le_of_ble_eq_true rfl, Nat.le_of_ble_eq_true rfl⟩ ⟨Nat.le_of_ble_eq_true rfl, Nat.le_of_ble_eq_true rfl⟩ (Nat.le_of_ble_eq_true rfl) dX6_isKept_108 ?_
                                refine GG.if_eq C (tgt := 118) dX6_isKept_111 (by decide) (fun c32 => ?_) (fun c32 => ?_)
                                · have hf := if_t hf c32
                                  refine GG.iconst C dX6_isKept_118 ic_0 ?_
                                  have hf := Option.some.inj hf
                                  subst hf
                                  exact GG.zret C zb_0 E dX6_isKept_119
                                · have hf := if_f hf c32
                                  refine GG.iconst C dX6_isKept_114 ic_1 ?_
                                  refine GG.goto C (tgt := 119) dX6_isKept_115 (by decide) ?_
                                  have hf := Option.some.inj hf
                                  subst hf
                                  exact GG.zret C zb_1 E dX6_isKept_119
                · have hf := if_f hf c16
                  refine GG.iconst C dX6_isKept_56 ic_1 ?_
                  have hf := Option.some.inj hf
                  subst hf
                  exact GG.zret C zb_1 E dX6_isKept_57
theorem gX6_isName {K : gK} {M : XS}  {S : MS} {o : Int32} (hf : fX6_isName S = some o) : gMet K yX6_isName cX6_isName 1 (some Jvm.ClassFile.FieldType.boolean) rX6_isName [(.ref (kh K))] M (some S) (some (.int o)) M (some S) := by
  refine gMet.of pn_X6 (Nat.le_of_ble_eq_true rfl) fun X C E => ?_
  unfold fX6_isName at hf
  show GG K X 1 0 0 M (some S) 0 [(0, .ref (kh K))] []
  refine GG.aload_n C dX6_isName_0 0 rfl ?_
  refine GG.gm14 C rfl dX6_isName_1 ?_
  refine GG.iconst C dX6_isName_4 ic_1 ?_
  refine GG.icmp_ne C (tgt := 28) dX6_isName_5 (by decide) (fun c1 => ?_) (fun c1 => ?_)
  · have hf := if_f hf c1
    refine GG.iconst C dX6_isName_28 ic_0 ?_
    have hf := Option.some.inj hf
    subst hf
    exact GG.zret C zb_0 E dX6_isName_29
  · have hf := if_t hf c1
    refine GG.aload_n C dX6_isName_8 0 rfl ?_
    refine GG.gm18 C rfl dX6_isName_9 ?_
    refine GG.bipush C dX6_isName_12 bp_8 ?_
    refine GG.icmp_gt C (tgt := 28) dX6_isName_14 (by decide) (fun c2 => ?_) (fun c2 => ?_)
    · have hf := if_t hf c2
      refine GG.iconst C dX6_isName_28 ic_0 ?_
      have hf := Option.some.inj hf
      subst hf
      exact GG.zret C zb_0 E dX6_isName_29
    · have hf := if_f hf c2
      refine GG.aload_n C dX6_isName_17 0 rfl ?_
      obtain ⟨v3, hv3, hf⟩ := obd_some hf
      refine GG.c_X6_206 C rfl (gX6_isKept hv3) ⟨Nat.le_of_ble_eq_true rfl, Nat.le_of_ble_eq_true rfl⟩ ⟨Nat.le_of_ble_eq_true rfl, Nat.le_of_ble_eq_true rfl⟩ (Nat.le_of_ble_eq_true rfl) dX6_isName_18 ?_
      refine GG.if_ne C (tgt := 28) dX6_isName_21 (by decide) (fun c4 => ?_) (fun c4 => ?_)
      · have hf := if_f hf c4
        refine GG.iconst C dX6_isName_28 ic_0 ?_
        have hf := Option.some.inj hf
        subst hf
        exact GG.zret C zb_0 E dX6_isName_29
      · have hf := if_t hf c4
        refine GG.iconst C dX6_isName_24 ic_1 ?_
        refine GG.goto C (tgt := 29) dX6_isName_25 (by decide) ?_
        have hf := Option.some.inj hf
        subst hf
        exact GG.zret C zb_1 E dX6_isName_29
theorem gX6_wrong {K : gK} {M : XS}  {S : MS} {o : MS} (hf : fX6_wrong S = some o) : gMet K yX6_wrong cX6_wrong 1 none rX6_wrong [(.ref (kh K))] M (some S) none M (some o) := by
  refine gMet.of pn_X6 (Nat.le_of_ble_eq_true rfl) fun X C E => ?_
  unfold fX6_wrong at hf
  show GG K X 1 0 0 M (some S) 0 [(0, .ref (kh K))] []
  refine GG.aload_n C dX6_wrong_0 0 rfl ?_
  refine GG.aload_n C dX6_wrong_1 0 rfl ?_
  refine GG.gm14 C rfl dX6_wrong_2 ?_
  refine GG.iconst C dX6_wrong_5 ic_4 ?_
  refine GG.icmp_ne C (tgt := 13) dX6_wrong_6 (by decide) (fun c1 => ?_) (fun c1 => ?_)
  · have hf := if_f hf c1
    refine GG.iconst C dX6_wrong_13 ic_2 ?_
    refine GG.aload_n C dX6_wrong_14 0 rfl ?_
    refine GG.gm15 C rfl dX6_wrong_15 ?_
    obtain ⟨p2, hp2, hf⟩ := obd_some hf
    refine GG.c_X6_215 C rfl (gX6_fail hp2) ⟨Nat.le_of_ble_eq_true rfl, Nat.le_of_ble_eq_true rfl⟩ ⟨Nat.le_of_ble_eq_true rfl, Nat.le_of_ble_eq_true rfl⟩ (Nat.le_of_ble_eq_true rfl) dX6_wrong_18 ?_
    have hf := Option.some.inj hf
    subst hf
    exact GG.vret C E dX6_wrong_21
  · have hf := if_t hf c1
    refine GG.iconst C dX6_wrong_9 ic_1 ?_
    refine GG.goto C (tgt := 14) dX6_wrong_10 (by decide) ?_
    refine GG.aload_n C dX6_wrong_14 0 rfl ?_
    refine GG.gm15 C rfl dX6_wrong_15 ?_
    obtain ⟨p3, hp3, hf⟩ := obd_some hf
    refine GG.c_X6_215 C rfl (gX6_fail hp3) ⟨Nat.le_of_ble_eq_true rfl, Nat.le_of_ble_eq_true rfl⟩ ⟨Nat.le_of_ble_eq_true rfl, Nat.le_of_ble_eq_true rfl⟩ (Nat.le_of_ble_eq_true rfl) dX6_wrong_18 ?_
    have hf := Option.some.inj hf
    subst hf
    exact GG.vret C E dX6_wrong_21
theorem gX6_named_3 {K : gK} {X : gX} {M : XS} {S : MS} (C : gC K X cX6_named 5 yX6_named (some Jvm.ClassFile.FieldType.int) rX6_named)  {o : Int32} (E : gE K X (some (.int o)) M (some S) rX6_named.cells rX6_named.slots)   :
    ∀ (n : Nat) (a1 : Int32) (a2 : Int32) (a3 : Int32) (a4 : Int32), fX6_named_3 S n a1 a2 a3 a4 = some o → GG K X 5 0 0 M (some S) 3 [(0, .ref (kh K)), (1, .int a1), (2, .int a2), (3, .int a3), (4, .int a4)] [] := by
  intro n
  induction n with
  | zero => intro a1 a2 a3 a4 hf; cases hf
  | succ n ih =>
    intro a1 a2 a3 a4 hf
    rw [fX6_named_3] at hf
    refine GG.iload C dX6_named_3 4 rfl ?_
    refine GG.iload_n C dX6_named_5 3 rfl ?_
    refine GG.icmp_ge C (tgt := 40) dX6_named_6 (by decide) (fun c1 => ?_) (fun c1 => ?_)
    · have hf := if_t hf c1
      refine GG.iconst C dX6_named_40 ic_m1 ?_
      have hf := Option.some.inj hf
      subst hf
      exact GG.iret C E dX6_named_41
    · have hf := if_f hf c1
      refine GG.aload_n C dX6_named_9 0 rfl ?_
      refine GG.gm21 C rfl dX6_named_10 ?_
      refine GG.bipush C dX6_named_13 bp_20 ?_
      refine GG.iload_n C dX6_named_15 1 rfl ?_
      refine GG.imul C dX6_named_16 ?_
      refine GG.iload_n C dX6_named_17 2 rfl ?_
      refine GG.iadd C dX6_named_18 ?_
      refine GG.iload C dX6_named_19 4 rfl ?_
      refine GG.iadd C dX6_named_21 ?_
      obtain ⟨v2, hv2, hf⟩ := obd_some hf
      refine GG.ml C hv2 dX6_named_22 ?_
      refine GG.aload_n C dX6_named_23 0 rfl ?_
      refine GG.gm19 C rfl dX6_named_24 ?_
      refine GG.lcmp C dX6_named_27 ?_
      refine GG.if_ne C (tgt := 34) dX6_named_28 (by decide) (fun c3 => ?_) (fun c3 => ?_)
      · have hf := if_f hf c3
        refine GG.iinc C (v := (a4 + (nI 1))) (lv' := [(4, .int (a4 + (nI 1))), (0, .ref (kh K)), (1, .int a1), (2, .int a2), (3, .int a3)]) dX6_named_34 4 rfl (congrArg (a4 + ·) ic_1) (by decide) rfl ?_
        refine GG.goto C (tgt := 3) dX6_named_37 (by decide) ?_
        refine GG.sub [1, 2, 3, 4, 0] rfl ?_
        exact ih _ _ _ _ hf
      · have hf := if_t hf c3
        refine GG.iload C dX6_named_31 4 rfl ?_
        have hf := Option.some.inj hf
        subst hf
        exact GG.iret C E dX6_named_33
theorem gX6_named {K : gK} {M : XS}  {S : MS} {a1 : Int32} {a2 : Int32} {a3 : Int32} {o : Int32} (hf : fX6_named S a1 a2 a3 = some o) : gMet K yX6_named cX6_named 5 (some Jvm.ClassFile.FieldType.int) rX6_named [(.ref (kh K)), (.int a1), (.int a2), (.int a3)] M (some S) (some (.int o)) M (some S) := by
  refine gMet.of pn_X6 (Nat.le_of_ble_eq_true rfl) fun X C E => ?_
  unfold fX6_named at hf
  show GG K X 5 0 0 M (some S) 0 [(0, .ref (kh K)), (1, .int a1), (2, .int a2), (3, .int a3)] []
  refine GG.iconst C dX6_named_0 ic_0 ?_
  refine GG.istore C (lv' := [(4, .int (nI 0)), (0, .ref (kh K)), (1, .int a1), (2, .int a2), (3, .int a3)]) dX6_named_1 (by decide) rfl ?_
  refine GG.sub [1, 2, 3, 4, 0] rfl ?_
  exact gX6_named_3 C E  FU _ _ _ _ hf
theorem gX6_readNew_66 {K : gK} {X : gX} {M : XS} (C : gC K X cX6_readNew 3 yX6_readNew none rX6_readNew)  {o : MS} (E : gE K X none M (some o) rX6_readNew.cells rX6_readNew.slots)   :
    ∀ (S : MS) (a1 : Int32) (a2 : Int32), fX6_readNew_66  S a1 a2 = some o → GG K X 3 0 0 M (some S) 66 [(0, .ref (kh K)), (1, .int a1), (2, .int a2)] [] := by
  intro S a1 a2 hf
  unfold fX6_readNew_66 at hf
  refine GG.aload_n C dX6_readNew_66 0 rfl ?_
  refine GG.gm12 C rfl dX6_readNew_67 ?_
  refine GG.if_le C (tgt := 74) dX6_readNew_70 (by decide) (fun c14 => ?_) (fun c14 => ?_)
  · have hf := if_t hf c14
    refine GG.aload_n C dX6_readNew_74 0 rfl ?_
    refine GG.gm21 C rfl dX6_readNew_75 ?_
    refine GG.bipush C dX6_readNew_78 bp_80 ?_
    refine GG.iload_n C dX6_readNew_80 1 rfl ?_
    refine GG.iadd C dX6_readNew_81 ?_
    refine GG.iload_n C dX6_readNew_82 2 rfl ?_
    refine GG.iadd C dX6_readNew_83 ?_
    refine GG.aload_n C dX6_readNew_84 0 rfl ?_
    refine GG.gm19 C rfl dX6_readNew_85 ?_
    obtain ⟨S15, hS15, hf⟩ := obd_some hf
    refine GG.mls C hS15 dX6_readNew_88 ?_
    refine GG.aload_n C dX6_readNew_89 0 rfl ?_
    obtain ⟨p16, hp16, hf⟩ := obd_some hf
    refine GG.c_X6_219 C rfl (gX6_next hp16) ⟨Nat.le_of_ble_eq_true rfl, Nat.le_of_ble_eq_true rfl⟩ ⟨Nat.le_of_ble_eq_true rfl, Nat.le_of_ble_eq_true rfl⟩ (Nat.le_of_ble_eq_true rfl) dX6_readNew_90 ?_
    have hf := Option.some.inj hf
    subst hf
    exact GG.vret C E dX6_readNew_93
  · have hf := if_f hf c14
    have hf := Option.some.inj hf
    subst hf
    exact GG.vret C E dX6_readNew_73
theorem gX6_readNew_15 {K : gK} {X : gX} {M : XS} (C : gC K X cX6_readNew 3 yX6_readNew none rX6_readNew)  {o : MS} (E : gE K X none M (some o) rX6_readNew.cells rX6_readNew.slots)   :
    ∀ (S : MS) (a1 : Int32) (a2 : Int32), fX6_readNew_15  S a1 a2 = some o → GG K X 3 0 0 M (some S) 15 [(0, .ref (kh K)), (1, .int a1), (2, .int a2)] [] := by
  intro S a1 a2 hf
  unfold fX6_readNew_15 at hf
  refine GG.aload_n C dX6_readNew_15 0 rfl ?_
  refine GG.gm12 C rfl dX6_readNew_16 ?_
  refine GG.if_ne C (tgt := 66) dX6_readNew_19 (by decide) (fun c5 => ?_) (fun c5 => ?_)
  · have hf := if_f hf c5
    refine GG.sub [0, 1, 2] rfl ?_
    exact gX6_readNew_66 C E  _ _ _ hf
  · have hf := if_t hf c5
    refine GG.aload_n C dX6_readNew_22 0 rfl ?_
    refine GG.iconst C dX6_readNew_23 ic_4 ?_
    refine GG.iconst C dX6_readNew_24 ic_0 ?_
    refine GG.aload_n C dX6_readNew_25 0 rfl ?_
    refine GG.gm20 C rfl dX6_readNew_26 ?_
    refine GG.sipush C dX6_readNew_29 sp_1440 ?_
    obtain ⟨v6, hv6, hf⟩ := obd_some hf
    refine GG.mi C rfl hv6 dX6_readNew_32 ?_
    obtain ⟨v7, hv7, hf⟩ := obd_some hf
    refine GG.c_X6_235 C rfl (gX6_named hv7) ⟨Nat.le_of_ble_eq_true rfl, Nat.le_of_ble_eq_true rfl⟩ ⟨Nat.le_of_ble_eq_true rfl, Nat.le_of_ble_eq_true rfl⟩ (Nat.le_of_ble_eq_true rfl) dX6_readNew_33 ?_
    refine GG.if_ge C (tgt := 57) dX6_readNew_36 (by decide) (fun c8 => ?_) (fun c8 => ?_)
    · have hf := if_t hf c8
      refine GG.aload_n C dX6_readNew_57 0 rfl ?_
      refine GG.iconst C dX6_readNew_58 ic_3 ?_
      refine GG.aload_n C dX6_readNew_59 0 rfl ?_
      refine GG.gm15 C rfl dX6_readNew_60 ?_
      obtain ⟨p9, hp9, hf⟩ := obd_some hf
      refine GG.c_X6_215 C rfl (gX6_fail hp9) ⟨Nat.le_of_ble_eq_true rfl, Nat.le_of_ble_eq_true rfl⟩ ⟨Nat.le_of_ble_eq_true rfl, Nat.le_of_ble_eq_true rfl⟩ (Nat.le_of_ble_eq_true rfl) dX6_readNew_63 ?_
      refine GG.sub [0, 1, 2] rfl ?_
      exact gX6_readNew_66 C E  _ _ _ hf
    · have hf := if_f hf c8
      refine GG.aload_n C dX6_readNew_39 0 rfl ?_
      refine GG.iconst C dX6_readNew_40 ic_4 ?_
      refine GG.bipush C dX6_readNew_41 bp_16 ?_
      refine GG.aload_n C dX6_readNew_43 0 rfl ?_
      refine GG.gm20 C rfl dX6_readNew_44 ?_
      refine GG.sipush C dX6_readNew_47 sp_1441 ?_
      obtain ⟨v10, hv10, hf⟩ := obd_some hf
      refine GG.mi C rfl hv10 dX6_readNew_50 ?_
      obtain ⟨v11, hv11, hf⟩ := obd_some hf
      refine GG.c_X6_235 C rfl (gX6_named hv11) ⟨Nat.le_of_ble_eq_true rfl, Nat.le_of_ble_eq_true rfl⟩ ⟨Nat.le_of_ble_eq_true rfl, Nat.le_of_ble_eq_true rfl⟩ (Nat.le_of_ble_eq_true rfl) dX6_readNew_51 ?_
      refine GG.if_lt C (tgt := 66) dX6_readNew_54 (by decide) (fun c12 => ?_) (fun c12 => ?_)
      · have hf := if_t hf c12
        refine GG.sub [0, 1, 2] rfl ?_
        exact gX6_readNew_66 C E  _ _ _ hf
      · have hf := if_f hf c12
        refine GG.aload_n C dX6_readNew_57 0 rfl ?_
        refine GG.iconst C dX6_readNew_58 ic_3 ?_
        refine GG.aload_n C dX6_readNew_59 0 rfl ?_
        refine GG.gm15 C rfl dX6_readNew_60 ?_
        obtain ⟨p13, hp13, hf⟩ := obd_some hf
        refine GG.c_X6_215 C rfl (gX6_fail hp13) ⟨Nat.le_of_ble_eq_true rfl, Nat.le_of_ble_eq_true rfl⟩ ⟨Nat.le_of_ble_eq_true rfl, Nat.le_of_ble_eq_true rfl⟩ (Nat.le_of_ble_eq_true rfl) dX6_readNew_63 ?_
        refine GG.sub [0, 1, 2] rfl ?_
        exact gX6_readNew_66 C E  _ _ _ hf
theorem gX6_readNew {K : gK} {M : XS}  {S : MS} {a1 : Int32} {a2 : Int32} {o : MS} (hf : fX6_readNew S a1 a2 = some o) : gMet K yX6_readNew cX6_readNew 3 none rX6_readNew [(.ref (kh K)), (.int a1), (.int a2)] M (some S) none M (some o) := by
  refine gMet.of pn_X6 (Nat.le_of_ble_eq_true rfl) fun X C E => ?_
  unfold fX6_readNew at hf
  show GG K X 3 0 0 M (some S) 0 [(0, .ref (kh K)), (1, .int a1), (2, .int a2)] []
  refine GG.aload_n C dX6_readNew_0 0 rfl ?_
  obtain ⟨p1, hp1, hf⟩ := obd_some hf
  refine GG.c_X6_219 C rfl (gX6_next hp1) ⟨Nat.le_of_ble_eq_true rfl, Nat.le_of_ble_eq_true rfl⟩ ⟨Nat.le_of_ble_eq_true rfl, Nat.le_of_ble_eq_true rfl⟩ (Nat.le_of_ble_eq_true rfl) dX6_readNew_1 ?_
  refine GG.aload_n C dX6_readNew_4 0 rfl ?_
  obtain ⟨v2, hv2, hf⟩ := obd_some hf
  refine GG.c_X6_232 C rfl (gX6_isName hv2) ⟨Nat.le_of_ble_eq_true rfl, Nat.le_of_ble_eq_true rfl⟩ ⟨Nat.le_of_ble_eq_true rfl, Nat.le_of_ble_eq_true rfl⟩ (Nat.le_of_ble_eq_true rfl) dX6_readNew_5 ?_
  refine GG.if_ne C (tgt := 15) dX6_readNew_8 (by decide) (fun c3 => ?_) (fun c3 => ?_)
  · have hf := if_f hf c3
    refine GG.sub [0, 1, 2] rfl ?_
    exact gX6_readNew_15 C E  _ _ _ hf
  · have hf := if_t hf c3
    refine GG.aload_n C dX6_readNew_11 0 rfl ?_
    obtain ⟨p4, hp4, hf⟩ := obd_some hf
    refine GG.c_X6_222 C rfl (gX6_wrong hp4) ⟨Nat.le_of_ble_eq_true rfl, Nat.le_of_ble_eq_true rfl⟩ ⟨Nat.le_of_ble_eq_true rfl, Nat.le_of_ble_eq_true rfl⟩ (Nat.le_of_ble_eq_true rfl) dX6_readNew_12 ?_
    refine GG.sub [0, 1, 2] rfl ?_
    exact gX6_readNew_15 C E  _ _ _ hf
theorem gX6_readIsland_24 {K : gK} {X : gX} {M : XS} (C : gC K X cX6_readIsland 2 yX6_readIsland none rX6_readIsland)  {o : MS} (E : gE K X none M (some o) rX6_readIsland.cells rX6_readIsland.slots)   :
    ∀ (S : MS) (a1 : Int32), fX6_readIsland_24  S a1 = some o → GG K X 2 0 0 M (some S) 24 [(0, .ref (kh K)), (1, .int a1)] [] := by
  intro S a1 hf
  unfold fX6_readIsland_24 at hf
  refine GG.aload_n C dX6_readIsland_24 0 rfl ?_
  refine GG.gm12 C rfl dX6_readIsland_25 ?_
  refine GG.if_le C (tgt := 32) dX6_readIsland_28 (by decide) (fun c4 => ?_) (fun c4 => ?_)
  · have hf := if_t hf c4
    refine GG.aload_n C dX6_readIsland_32 0 rfl ?_
    refine GG.bipush C dX6_readIsland_33 bp_16 ?_
    refine GG.iload_n C dX6_readIsland_35 1 rfl ?_
    obtain ⟨p5, hp5, hf⟩ := obd_some hf
    refine GG.c_X6_275 C rfl (gX6_readNew hp5) ⟨Nat.le_of_ble_eq_true rfl, Nat.le_of_ble_eq_true rfl⟩ ⟨Nat.le_of_ble_eq_true rfl, Nat.le_of_ble_eq_true rfl⟩ (Nat.le_of_ble_eq_true rfl) dX6_readIsland_36 ?_
    refine GG.aload_n C dX6_readIsland_39 0 rfl ?_
    refine GG.gm12 C rfl dX6_readIsland_40 ?_
    refine GG.if_ne C (tgt := 58) dX6_readIsland_43 (by decide) (fun c6 => ?_) (fun c6 => ?_)
    · have hf := if_f hf c6
      have hf := Option.some.inj hf
      subst hf
      exact GG.vret C E dX6_readIsland_58
    · have hf := if_t hf c6
      refine GG.aload_n C dX6_readIsland_46 0 rfl ?_
      refine GG.gm20 C rfl dX6_readIsland_47 ?_
      refine GG.sipush C dX6_readIsland_50 sp_1441 ?_
      refine GG.dup2 C dX6_readIsland_53 rfl rfl ?_
      obtain ⟨v7, hv7, hf⟩ := obd_some hf
      refine GG.mi C rfl hv7 dX6_readIsland_54 ?_
      refine GG.iconst C dX6_readIsland_55 ic_1 ?_
      refine GG.iadd C dX6_readIsland_56 ?_
      obtain ⟨S8, hS8, hf⟩ := obd_some hf
      refine GG.mis C rfl hS8 dX6_readIsland_57 ?_
      have hf := Option.some.inj hf
      subst hf
      exact GG.vret C E dX6_readIsland_58
  · have hf := if_f hf c4
    have hf := Option.some.inj hf
    subst hf
    exact GG.vret C E dX6_readIsland_31
theorem gX6_readIsland {K : gK} {M : XS}  {S : MS} {o : MS} (hf : fX6_readIsland S = some o) : gMet K yX6_readIsland cX6_readIsland 2 none rX6_readIsland [(.ref (kh K))] M (some S) none M (some o) := by
  refine gMet.of pn_X6 (Nat.le_of_ble_eq_true rfl) fun X C E => ?_
  unfold fX6_readIsland at hf
  show GG K X 2 0 0 M (some S) 0 [(0, .ref (kh K))] []
  refine GG.aload_n C dX6_readIsland_0 0 rfl ?_
  refine GG.gm20 C rfl dX6_readIsland_1 ?_
  refine GG.sipush C dX6_readIsland_4 sp_1441 ?_
  obtain ⟨v1, hv1, hf⟩ := obd_some hf
  refine GG.mi C rfl hv1 dX6_readIsland_7 ?_
  refine GG.istore_n C (lv' := [(1, .int v1), (0, .ref (kh K))]) dX6_readIsland_8 (by decide) rfl ?_
  refine GG.iload_n C dX6_readIsland_9 0 rfl ?_
  refine GG.iconst C dX6_readIsland_10 ic_4 ?_
  refine GG.icmp_ne C (tgt := 24) dX6_readIsland_11 (by decide) (fun c2 => ?_) (fun c2 => ?_)
  · have hf := if_f hf c2
    refine GG.sub [1, 0] rfl ?_
    exact gX6_readIsland_24 C E  _ _ hf
  · have hf := if_t hf c2
    refine GG.aload_n C dX6_readIsland_14 1 rfl ?_
    refine GG.bipush C dX6_readIsland_15 bp_6 ?_
    refine GG.aload_n C dX6_readIsland_17 1 rfl ?_
    refine GG.gm15 C rfl dX6_readIsland_18 ?_
    obtain ⟨p3, hp3, hf⟩ := obd_some hf
    refine GG.c_X6_215 C rfl (gX6_fail hp3) ⟨Nat.le_of_ble_eq_true rfl, Nat.le_of_ble_eq_true rfl⟩ ⟨Nat.le_of_ble_eq_true rfl, Nat.le_of_ble_eq_true rfl⟩ (Nat.le_of_ble_eq_true rfl) dX6_readIsland_21 ?_
    refine GG.sub [1, 0] rfl ?_
    exact gX6_readIsland_24 C E  _ _ hf
theorem gX6_must {K : gK} {M : XS}  {S : MS} {a1 : Int32} {o : MS} (hf : fX6_must S a1 = some o) : gMet K yX6_must cX6_must 2 none rX6_must [(.ref (kh K)), (.int a1)] M (some S) none M (some o) := by
  refine gMet.of pn_X6 (Nat.le_of_ble_eq_true rfl) fun X C E => ?_
  unfold fX6_must at hf
  show GG K X 2 0 0 M (some S) 0 [(0, .ref (kh K)), (1, .int a1)] []
  refine GG.aload_n C dX6_must_0 0 rfl ?_
  refine GG.gm12 C rfl dX6_must_1 ?_
  refine GG.if_le C (tgt := 8) dX6_must_4 (by decide) (fun c1 => ?_) (fun c1 => ?_)
  · have hf := if_t hf c1
    refine GG.iload_n C dX6_must_8 1 rfl ?_
    refine GG.if_eq C (tgt := 19) dX6_must_9 (by decide) (fun c2 => ?_) (fun c2 => ?_)
    · have hf := if_t hf c2
      refine GG.aload_n C dX6_must_19 0 rfl ?_
      obtain ⟨p3, hp3, hf⟩ := obd_some hf
      refine GG.c_X6_222 C rfl (gX6_wrong hp3) ⟨Nat.le_of_ble_eq_true rfl, Nat.le_of_ble_eq_true rfl⟩ ⟨Nat.le_of_ble_eq_true rfl, Nat.le_of_ble_eq_true rfl⟩ (Nat.le_of_ble_eq_true rfl) dX6_must_20 ?_
      have hf := Option.some.inj hf
      subst hf
      exact GG.vret C E dX6_must_23
    · have hf := if_f hf c2
      refine GG.aload_n C dX6_must_12 0 rfl ?_
      obtain ⟨p4, hp4, hf⟩ := obd_some hf
      refine GG.c_X6_219 C rfl (gX6_next hp4) ⟨Nat.le_of_ble_eq_true rfl, Nat.le_of_ble_eq_true rfl⟩ ⟨Nat.le_of_ble_eq_true rfl, Nat.le_of_ble_eq_true rfl⟩ (Nat.le_of_ble_eq_true rfl) dX6_must_13 ?_
      refine GG.goto C (tgt := 23) dX6_must_16 (by decide) ?_
      have hf := Option.some.inj hf
      subst hf
      exact GG.vret C E dX6_must_23
  · have hf := if_f hf c1
    have hf := Option.some.inj hf
    subst hf
    exact GG.vret C E dX6_must_7
theorem gX6_readTold_43 {K : gK} {X : gX} {M : XS} (C : gC K X cX6_readTold 2 yX6_readTold (some Jvm.ClassFile.FieldType.int) rX6_readTold)  {o : (Int32 × MS)} (E : gE K X (some (.int o.1)) M (some o.2) rX6_readTold.cells rX6_readTold.slots)   :
    ∀ (S : MS) (s0 : Int32), fX6_readTold_43  S s0 = some o → GG K X 2 0 0 M (some S) 43 [(0, .ref (kh K))] [.int s0] := by
  intro S s0 hf
  unfold fX6_readTold_43 at hf
  refine GG.istore_n C (lv' := [(1, .int s0), (0, .ref (kh K))]) dX6_readTold_43 (by decide) rfl ?_
  refine GG.aload_n C dX6_readTold_44 1 rfl ?_
  refine GG.gm12 C rfl dX6_readTold_45 ?_
  refine GG.if_ne C (tgt := 64) dX6_readTold_48 (by decide) (fun c8 => ?_) (fun c8 => ?_)
  · have hf := if_f hf c8
    refine GG.iload_n C dX6_readTold_64 0 rfl ?_
    have hf := Option.some.inj hf
    subst hf
    exact GG.iret C E dX6_readTold_65
  · have hf := if_t hf c8
    refine GG.iload_n C dX6_readTold_51 0 rfl ?_
    refine GG.if_ge C (tgt := 64) dX6_readTold_52 (by decide) (fun c9 => ?_) (fun c9 => ?_)
    · have hf := if_t hf c9
      refine GG.iload_n C dX6_readTold_64 0 rfl ?_
      have hf := Option.some.inj hf
      subst hf
      exact GG.iret C E dX6_readTold_65
    · have hf := if_f hf c9
      refine GG.aload_n C dX6_readTold_55 1 rfl ?_
      refine GG.iconst C dX6_readTold_56 ic_3 ?_
      refine GG.aload_n C dX6_readTold_57 1 rfl ?_
      refine GG.gm15 C rfl dX6_readTold_58 ?_
      obtain ⟨p10, hp10, hf⟩ := obd_some hf
      refine GG.c_X6_215 C rfl (gX6_fail hp10) ⟨Nat.le_of_ble_eq_true rfl, Nat.le_of_ble_eq_true rfl⟩ ⟨Nat.le_of_ble_eq_true rfl, Nat.le_of_ble_eq_true rfl⟩ (Nat.le_of_ble_eq_true rfl) dX6_readTold_61 ?_
      refine GG.iload_n C dX6_readTold_64 0 rfl ?_
      have hf := Option.some.inj hf
      subst hf
      exact GG.iret C E dX6_readTold_65
theorem gX6_readTold_18 {K : gK} {X : gX} {M : XS} (C : gC K X cX6_readTold 2 yX6_readTold (some Jvm.ClassFile.FieldType.int) rX6_readTold)  {o : (Int32 × MS)} (E : gE K X (some (.int o.1)) M (some o.2) rX6_readTold.cells rX6_readTold.slots)   :
    ∀ (S : MS), fX6_readTold_18  S = some o → GG K X 2 0 0 M (some S) 18 [(0, .ref (kh K))] [] := by
  intro S hf
  unfold fX6_readTold_18 at hf
  refine GG.aload_n C dX6_readTold_18 0 rfl ?_
  refine GG.gm12 C rfl dX6_readTold_19 ?_
  refine GG.if_ne C (tgt := 42) dX6_readTold_22 (by decide) (fun c5 => ?_) (fun c5 => ?_)
  · have hf := if_f hf c5
    refine GG.iconst C dX6_readTold_42 ic_0 ?_
    refine GG.sub [0] rfl ?_
    exact gX6_readTold_43 C E  _ _ hf
  · have hf := if_t hf c5
    refine GG.aload_n C dX6_readTold_25 0 rfl ?_
    refine GG.iconst C dX6_readTold_26 ic_4 ?_
    refine GG.iconst C dX6_readTold_27 ic_0 ?_
    refine GG.aload_n C dX6_readTold_28 0 rfl ?_
    refine GG.gm20 C rfl dX6_readTold_29 ?_
    refine GG.sipush C dX6_readTold_32 sp_1440 ?_
    obtain ⟨v6, hv6, hf⟩ := obd_some hf
    refine GG.mi C rfl hv6 dX6_readTold_35 ?_
    obtain ⟨v7, hv7, hf⟩ := obd_some hf
    refine GG.c_X6_235 C rfl (gX6_named hv7) ⟨Nat.le_of_ble_eq_true rfl, Nat.le_of_ble_eq_true rfl⟩ ⟨Nat.le_of_ble_eq_true rfl, Nat.le_of_ble_eq_true rfl⟩ (Nat.le_of_ble_eq_true rfl) dX6_readTold_36 ?_
    refine GG.goto C (tgt := 43) dX6_readTold_39 (by decide) ?_
    refine GG.sub [0] rfl ?_
    exact gX6_readTold_43 C E  _ _ hf
theorem gX6_readTold {K : gK} {M : XS}  {S : MS} {o : (Int32 × MS)} (hf : fX6_readTold S = some o) : gMet K yX6_readTold cX6_readTold 2 (some Jvm.ClassFile.FieldType.int) rX6_readTold [(.ref (kh K))] M (some S) (some (.int o.1)) M (some o.2) := by
  refine gMet.of pn_X6 (Nat.le_of_ble_eq_true rfl) fun X C E => ?_
  unfold fX6_readTold at hf
  show GG K X 2 0 0 M (some S) 0 [(0, .ref (kh K))] []
  refine GG.aload_n C dX6_readTold_0 0 rfl ?_
  refine GG.gm12 C rfl dX6_readTold_1 ?_
  refine GG.if_ne C (tgt := 18) dX6_readTold_4 (by decide) (fun c1 => ?_) (fun c1 => ?_)
  · have hf := if_f hf c1
    refine GG.sub [0] rfl ?_
    exact gX6_readTold_18 C E  _ hf
  · have hf := if_t hf c1
    refine GG.aload_n C dX6_readTold_7 0 rfl ?_
    obtain ⟨v2, hv2, hf⟩ := obd_some hf
    refine GG.c_X6_232 C rfl (gX6_isName hv2) ⟨Nat.le_of_ble_eq_true rfl, Nat.le_of_ble_eq_true rfl⟩ ⟨Nat.le_of_ble_eq_true rfl, Nat.le_of_ble_eq_true rfl⟩ (Nat.le_of_ble_eq_true rfl) dX6_readTold_8 ?_
    refine GG.if_ne C (tgt := 18) dX6_readTold_11 (by decide) (fun c3 => ?_) (fun c3 => ?_)
    · have hf := if_f hf c3
      refine GG.sub [0] rfl ?_
      exact gX6_readTold_18 C E  _ hf
    · have hf := if_t hf c3
      refine GG.aload_n C dX6_readTold_14 0 rfl ?_
      obtain ⟨p4, hp4, hf⟩ := obd_some hf
      refine GG.c_X6_222 C rfl (gX6_wrong hp4) ⟨Nat.le_of_ble_eq_true rfl, Nat.le_of_ble_eq_true rfl⟩ ⟨Nat.le_of_ble_eq_true rfl, Nat.le_of_ble_eq_true rfl⟩ (Nat.le_of_ble_eq_true rfl) dX6_readTold_15 ?_
      refine GG.sub [0] rfl ?_
      exact gX6_readTold_18 C E  _ hf
theorem gX6_kind {K : gK} {M : XS}  {S : MS} {a1 : Int32} {a2 : Int32} {o : Int32} (hf : fX6_kind S a1 a2 = some o) : gMet K yX6_kind cX6_kind 3 (some Jvm.ClassFile.FieldType.int) rX6_kind [(.ref (kh K)), (.int a1), (.int a2)] M (some S) (some (.int o)) M (some S) := by
  refine gMet.of pn_X6 (Nat.le_of_ble_eq_true rfl) fun X C E => ?_
  unfold fX6_kind at hf
  show GG K X 3 0 0 M (some S) 0 [(0, .ref (kh K)), (1, .int a1), (2, .int a2)] []
  refine GG.aload_n C dX6_kind_0 0 rfl ?_
  refine GG.gm20 C rfl dX6_kind_1 ?_
  refine GG.iload_n C dX6_kind_4 1 rfl ?_
  refine GG.iconst C dX6_kind_5 ic_2 ?_
  refine GG.iadd C dX6_kind_6 ?_
  refine GG.iload_n C dX6_kind_7 2 rfl ?_
  refine GG.iadd C dX6_kind_8 ?_
  obtain ⟨v1, hv1, hf⟩ := obd_some hf
  refine GG.mi C rfl hv1 dX6_kind_9 ?_
  have hf := Option.some.inj hf
  subst hf
  exact GG.iret C E dX6_kind_10
theorem gX6_readQuarreler {K : gK} {M : XS}  {S : MS} {o : (Int32 × MS)} (hf : fX6_readQuarreler S = some o) : gMet K yX6_readQuarreler cX6_readQuarreler 2 (some Jvm.ClassFile.FieldType.int) rX6_readQuarreler [(.ref (kh K))] M (some S) (some (.int o.1)) M (some o.2) := by
  refine gMet.of pn_X6 (Nat.le_of_ble_eq_true rfl) fun X C E => ?_
  unfold fX6_readQuarreler at hf
  show GG K X 2 0 0 M (some S) 0 [(0, .ref (kh K))] []
  refine GG.aload_n C dX6_readQuarreler_0 0 rfl ?_
  obtain ⟨p1, hp1, hf⟩ := obd_some hf
  refine GG.c_X6_256 C rfl (gX6_readTold hp1) ⟨Nat.le_of_ble_eq_true rfl, Nat.le_of_ble_eq_true rfl⟩ ⟨Nat.le_of_ble_eq_true rfl, Nat.le_of_ble_eq_true rfl⟩ (Nat.le_of_ble_eq_true rfl) dX6_readQuarreler_1 ?_
  refine GG.istore_n C (lv' := [(1, .int p1.1), (0, .ref (kh K))]) dX6_readQuarreler_4 (by decide) rfl ?_
  refine GG.aload_n C dX6_readQuarreler_5 1 rfl ?_
  refine GG.gm12 C rfl dX6_readQuarreler_6 ?_
  refine GG.if_ne C (tgt := 44) dX6_readQuarreler_9 (by decide) (fun c2 => ?_) (fun c2 => ?_)
  · have hf := if_f hf c2
    refine GG.iload_n C dX6_readQuarreler_44 0 rfl ?_
    have hf := Option.some.inj hf
    subst hf
    exact GG.iret C E dX6_readQuarreler_45
  · have hf := if_t hf c2
    refine GG.aload_n C dX6_readQuarreler_12 1 rfl ?_
    refine GG.sipush C dX6_readQuarreler_13 sp_1440 ?_
    refine GG.iload_n C dX6_readQuarreler_16 0 rfl ?_
    obtain ⟨v3, hv3, hf⟩ := obd_some hf
    refine GG.c_X6_239 C rfl (gX6_kind hv3) ⟨Nat.le_of_ble_eq_true rfl, Nat.le_of_ble_eq_true rfl⟩ ⟨Nat.le_of_ble_eq_true rfl, Nat.le_of_ble_eq_true rfl⟩ (Nat.le_of_ble_eq_true rfl) dX6_readQuarreler_17 ?_
    refine GG.if_eq C (tgt := 35) dX6_readQuarreler_20 (by decide) (fun c4 => ?_) (fun c4 => ?_)
    · have hf := if_t hf c4
      refine GG.aload_n C dX6_readQuarreler_35 1 rfl ?_
      refine GG.iconst C dX6_readQuarreler_36 ic_5 ?_
      refine GG.aload_n C dX6_readQuarreler_37 1 rfl ?_
      refine GG.gm15 C rfl dX6_readQuarreler_38 ?_
      obtain ⟨p5, hp5, hf⟩ := obd_some hf
      refine GG.c_X6_215 C rfl (gX6_fail hp5) ⟨Nat.le_of_ble_eq_true rfl, Nat.le_of_ble_eq_true rfl⟩ ⟨Nat.le_of_ble_eq_true rfl, Nat.le_of_ble_eq_true rfl⟩ (Nat.le_of_ble_eq_true rfl) dX6_readQuarreler_41 ?_
      refine GG.iload_n C dX6_readQuarreler_44 0 rfl ?_
      have hf := Option.some.inj hf
      subst hf
      exact GG.iret C E dX6_readQuarreler_45
    · have hf := if_f hf c4
      refine GG.aload_n C dX6_readQuarreler_23 1 rfl ?_
      refine GG.sipush C dX6_readQuarreler_24 sp_1440 ?_
      refine GG.iload_n C dX6_readQuarreler_27 0 rfl ?_
      obtain ⟨v6, hv6, hf⟩ := obd_some hf
      refine GG.c_X6_239 C rfl (gX6_kind hv6) ⟨Nat.le_of_ble_eq_true rfl, Nat.le_of_ble_eq_true rfl⟩ ⟨Nat.le_of_ble_eq_true rfl, Nat.le_of_ble_eq_true rfl⟩ (Nat.le_of_ble_eq_true rfl) dX6_readQuarreler_28 ?_
      refine GG.iconst C dX6_readQuarreler_31 ic_4 ?_
      refine GG.icmp_ne C (tgt := 44) dX6_readQuarreler_32 (by decide) (fun c7 => ?_) (fun c7 => ?_)
      · have hf := if_f hf c7
        refine GG.iload_n C dX6_readQuarreler_44 0 rfl ?_
        have hf := Option.some.inj hf
        subst hf
        exact GG.iret C E dX6_readQuarreler_45
      · have hf := if_t hf c7
        refine GG.aload_n C dX6_readQuarreler_35 1 rfl ?_
        refine GG.iconst C dX6_readQuarreler_36 ic_5 ?_
        refine GG.aload_n C dX6_readQuarreler_37 1 rfl ?_
        refine GG.gm15 C rfl dX6_readQuarreler_38 ?_
        obtain ⟨p8, hp8, hf⟩ := obd_some hf
        refine GG.c_X6_215 C rfl (gX6_fail hp8) ⟨Nat.le_of_ble_eq_true rfl, Nat.le_of_ble_eq_true rfl⟩ ⟨Nat.le_of_ble_eq_true rfl, Nat.le_of_ble_eq_true rfl⟩ (Nat.le_of_ble_eq_true rfl) dX6_readQuarreler_41 ?_
        refine GG.iload_n C dX6_readQuarreler_44 0 rfl ?_
        have hf := Option.some.inj hf
        subst hf
        exact GG.iret C E dX6_readQuarreler_45
theorem gX6_fight_35 {K : gK} {X : gX} {M : XS} {S : Option MS} (C : gC K X cX6_fight 2 yX6_fight (some Jvm.ClassFile.FieldType.boolean) rX6_fight)  {o : Int32} (E : gE K X (some (.int o)) M S rX6_fight.cells rX6_fight.slots)   :
    ∀ (a0 : Int32) (a1 : Int32), fX6_fight_35  a0 a1 = some o → GG K X 2 0 0 M S 35 [(0, .int a0), (1, .int a1)] [] := by
  intro a0 a1 hf
  unfold fX6_fight_35 at hf
  refine GG.iload_n C dX6_fight_35 1 rfl ?_
  refine GG.iconst C dX6_fight_36 ic_1 ?_
  refine GG.icmp_ne C (tgt := 54) dX6_fight_37 (by decide) (fun c10 => ?_) (fun c10 => ?_)
  · have hf := if_f hf c10
    refine GG.iconst C dX6_fight_54 ic_0 ?_
    have hf := Option.some.inj hf
    subst hf
    exact GG.zret C zb_0 E dX6_fight_55
  · have hf := if_t hf c10
    refine GG.iload_n C dX6_fight_40 0 rfl ?_
    refine GG.iconst C dX6_fight_41 ic_2 ?_
    refine GG.icmp_eq C (tgt := 50) dX6_fight_42 (by decide) (fun c11 => ?_) (fun c11 => ?_)
    · have hf := if_t hf c11
      refine GG.iconst C dX6_fight_50 ic_1 ?_
      refine GG.goto C (tgt := 55) dX6_fight_51 (by decide) ?_
      have hf := Option.some.inj hf
      subst hf
      exact GG.zret C zb_1 E dX6_fight_55
    · have hf := if_f hf c11
      refine GG.iload_n C dX6_fight_45 0 rfl ?_
      refine GG.iconst C dX6_fight_46 ic_3 ?_
      refine GG.icmp_ne C (tgt := 54) dX6_fight_47 (by decide) (fun c12 => ?_) (fun c12 => ?_)
      · have hf := if_f hf c12
        refine GG.iconst C dX6_fight_54 ic_0 ?_
        have hf := Option.some.inj hf
        subst hf
        exact GG.zret C zb_0 E dX6_fight_55
      · have hf := if_t hf c12
        refine GG.iconst C dX6_fight_50 ic_1 ?_
        refine GG.goto C (tgt := 55) dX6_fight_51 (by decide) ?_
        have hf := Option.some.inj hf
        subst hf
        exact GG.zret C zb_1 E dX6_fight_55
theorem gX6_fight_20 {K : gK} {X : gX} {M : XS} {S : Option MS} (C : gC K X cX6_fight 2 yX6_fight (some Jvm.ClassFile.FieldType.boolean) rX6_fight)  {o : Int32} (E : gE K X (some (.int o)) M S rX6_fight.cells rX6_fight.slots)   :
    ∀ (a0 : Int32) (a1 : Int32), fX6_fight_20  a0 a1 = some o → GG K X 2 0 0 M S 20 [(0, .int a0), (1, .int a1)] [] := by
  intro a0 a1 hf
  unfold fX6_fight_20 at hf
  refine GG.iload_n C dX6_fight_20 0 rfl ?_
  refine GG.iconst C dX6_fight_21 ic_1 ?_
  refine GG.icmp_ne C (tgt := 35) dX6_fight_22 (by decide) (fun c7 => ?_) (fun c7 => ?_)
  · have hf := if_f hf c7
    refine GG.sub [0, 1] rfl ?_
    exact gX6_fight_35 C E  _ _ hf
  · have hf := if_t hf c7
    refine GG.iload_n C dX6_fight_25 1 rfl ?_
    refine GG.iconst C dX6_fight_26 ic_2 ?_
    refine GG.icmp_eq C (tgt := 50) dX6_fight_27 (by decide) (fun c8 => ?_) (fun c8 => ?_)
    · have hf := if_t hf c8
      refine GG.iconst C dX6_fight_50 ic_1 ?_
      refine GG.goto C (tgt := 55) dX6_fight_51 (by decide) ?_
      have hf := Option.some.inj hf
      subst hf
      exact GG.zret C zb_1 E dX6_fight_55
    · have hf := if_f hf c8
      refine GG.iload_n C dX6_fight_30 1 rfl ?_
      refine GG.iconst C dX6_fight_31 ic_3 ?_
      refine GG.icmp_eq C (tgt := 50) dX6_fight_32 (by decide) (fun c9 => ?_) (fun c9 => ?_)
      · have hf := if_t hf c9
        refine GG.iconst C dX6_fight_50 ic_1 ?_
        refine GG.goto C (tgt := 55) dX6_fight_51 (by decide) ?_
        have hf := Option.some.inj hf
        subst hf
        exact GG.zret C zb_1 E dX6_fight_55
      · have hf := if_f hf c9
        refine GG.sub [0, 1] rfl ?_
        exact gX6_fight_35 C E  _ _ hf
theorem gX6_fight {K : gK} {M : XS} {S : Option MS}  {a0 : Int32} {a1 : Int32} {o : Int32} (hf : fX6_fight a0 a1 = some o) : gMet K yX6_fight cX6_fight 2 (some Jvm.ClassFile.FieldType.boolean) rX6_fight [(.int a0), (.int a1)] M S (some (.int o)) M S := by
  refine gMet.of pn_X6 (Nat.le_of_ble_eq_true rfl) fun X C E => ?_
  unfold fX6_fight at hf
  show GG K X 2 0 0 M S 0 [(0, .int a0), (1, .int a1)] []
  refine GG.iload_n C dX6_fight_0 0 rfl ?_
  refine GG.iconst C dX6_fight_1 ic_2 ?_
  refine GG.icmp_ne C (tgt := 10) dX6_fight_2 (by decide) (fun c1 => ?_) (fun c1 => ?_)
  · have hf := if_f hf c1
    refine GG.iload_n C dX6_fight_10 0 rfl ?_
    refine GG.iconst C dX6_fight_11 ic_3 ?_
    refine GG.icmp_ne C (tgt := 20) dX6_fight_12 (by decide) (fun c2 => ?_) (fun c2 => ?_)
    · have hf := if_f hf c2
      refine GG.sub [0, 1] rfl ?_
      exact gX6_fight_20 C E  _ _ hf
    · have hf := if_t hf c2
      refine GG.iload_n C dX6_fight_15 1 rfl ?_
      refine GG.iconst C dX6_fight_16 ic_3 ?_
      refine GG.icmp_eq C (tgt := 50) dX6_fight_17 (by decide) (fun c3 => ?_) (fun c3 => ?_)
      · have hf := if_t hf c3
        refine GG.iconst C dX6_fight_50 ic_1 ?_
        refine GG.goto C (tgt := 55) dX6_fight_51 (by decide) ?_
        have hf := Option.some.inj hf
        subst hf
        exact GG.zret C zb_1 E dX6_fight_55
      · have hf := if_f hf c3
        refine GG.sub [0, 1] rfl ?_
        exact gX6_fight_20 C E  _ _ hf
  · have hf := if_t hf c1
    refine GG.iload_n C dX6_fight_5 1 rfl ?_
    refine GG.iconst C dX6_fight_6 ic_2 ?_
    refine GG.icmp_eq C (tgt := 50) dX6_fight_7 (by decide) (fun c4 => ?_) (fun c4 => ?_)
    · have hf := if_t hf c4
      refine GG.iconst C dX6_fight_50 ic_1 ?_
      refine GG.goto C (tgt := 55) dX6_fight_51 (by decide) ?_
      have hf := Option.some.inj hf
      subst hf
      exact GG.zret C zb_1 E dX6_fight_55
    · have hf := if_f hf c4
      refine GG.iload_n C dX6_fight_10 0 rfl ?_
      refine GG.iconst C dX6_fight_11 ic_3 ?_
      refine GG.icmp_ne C (tgt := 20) dX6_fight_12 (by decide) (fun c5 => ?_) (fun c5 => ?_)
      · have hf := if_f hf c5
        refine GG.sub [0, 1] rfl ?_
        exact gX6_fight_20 C E  _ _ hf
      · have hf := if_t hf c5
        refine GG.iload_n C dX6_fight_15 1 rfl ?_
        refine GG.iconst C dX6_fight_16 ic_3 ?_
        refine GG.icmp_eq C (tgt := 50) dX6_fight_17 (by decide) (fun c6 => ?_) (fun c6 => ?_)
        · have hf := if_t hf c6
          refine GG.iconst C dX6_fight_50 ic_1 ?_
          refine GG.goto C (tgt := 55) dX6_fight_51 (by decide) ?_
          have hf := Option.some.inj hf
          subst hf
          exact GG.zret C zb_1 E dX6_fight_55
        · have hf := if_f hf c6
          refine GG.sub [0, 1] rfl ?_
          exact gX6_fight_20 C E  _ _ hf
theorem gX6_thingOf_2 {K : gK} {X : gX} {M : XS} {S : MS} (C : gC K X cX6_thingOf 4 yX6_thingOf (some Jvm.ClassFile.FieldType.int) rX6_thingOf)  {o : Int32} (E : gE K X (some (.int o)) M (some S) rX6_thingOf.cells rX6_thingOf.slots)   :
    ∀ (n : Nat) (a1 : Int32) (a3 : Int32), fX6_thingOf_2 S n a1 a3 = some o → GG K X 4 0 0 M (some S) 2 [(0, .ref (kh K)), (1, .int a1), (3, .int a3)] [] := by
  intro n
  induction n with
  | zero => intro a1 a3 hf; cases hf
  | succ n ih =>
    intro a1 a3 hf
    rw [fX6_thingOf_2] at hf
    refine GG.aload_n C dX6_thingOf_2 0 rfl ?_
    refine GG.iload_n C dX6_thingOf_3 1 rfl ?_
    refine GG.iload_n C dX6_thingOf_4 2 rfl ?_
    obtain ⟨v1, hv1, hf⟩ := obd_some hf
    refine GG.c_X6_239 C rfl (gX6_kind hv1) ⟨Nat.le_of_ble_eq_true rfl, Nat.le_of_ble_eq_true rfl⟩ ⟨Nat.le_of_ble_eq_true rfl, Nat.le_of_ble_eq_true rfl⟩ (Nat.le_of_ble_eq_true rfl) dX6_thingOf_5 ?_
    refine GG.if_eq C (tgt := 26) dX6_thingOf_8 (by decide) (fun c2 => ?_) (fun c2 => ?_)
    · have hf := if_t hf c2
      refine GG.iload_n C dX6_thingOf_26 2 rfl ?_
      have hf := Option.some.inj hf
      subst hf
      exact GG.iret C E dX6_thingOf_27
    · have hf := if_f hf c2
      refine GG.aload_n C dX6_thingOf_11 0 rfl ?_
      refine GG.gm20 C rfl dX6_thingOf_12 ?_
      refine GG.iload_n C dX6_thingOf_15 1 rfl ?_
      refine GG.bipush C dX6_thingOf_16 bp_50 ?_
      refine GG.iadd C dX6_thingOf_18 ?_
      refine GG.iload_n C dX6_thingOf_19 2 rfl ?_
      refine GG.iadd C dX6_thingOf_20 ?_
      obtain ⟨v3, hv3, hf⟩ := obd_some hf
      refine GG.mi C rfl hv3 dX6_thingOf_21 ?_
      refine GG.istore_n C (lv' := [(3, .int v3), (0, .ref (kh K)), (1, .int a1)]) dX6_thingOf_22 (by decide) rfl ?_
      refine GG.goto C (tgt := 2) dX6_thingOf_23 (by decide) ?_
      refine GG.sub [1, 2, 0] rfl ?_
      exact ih _ _ hf
theorem gX6_thingOf {K : gK} {M : XS}  {S : MS} {a1 : Int32} {a2 : Int32} {o : Int32} (hf : fX6_thingOf S a1 a2 = some o) : gMet K yX6_thingOf cX6_thingOf 4 (some Jvm.ClassFile.FieldType.int) rX6_thingOf [(.ref (kh K)), (.int a1), (.int a2)] M (some S) (some (.int o)) M (some S) := by
  refine gMet.of pn_X6 (Nat.le_of_ble_eq_true rfl) fun X C E => ?_
  unfold fX6_thingOf at hf
  show GG K X 4 0 0 M (some S) 0 [(0, .ref (kh K)), (1, .int a1), (2, .int a2)] []
  refine GG.iload_n C dX6_thingOf_0 2 rfl ?_
  refine GG.istore_n C (lv' := [(3, .int a2), (0, .ref (kh K)), (1, .int a1), (2, .int a2)]) dX6_thingOf_1 (by decide) rfl ?_
  refine GG.sub [1, 2, 0] rfl ?_
  exact gX6_thingOf_2 C E  FU _ _ hf
theorem gX6_hangsOn {K : gK} {M : XS}  {S : MS} {a1 : Int32} {a2 : Int32} {o : Int32} (hf : fX6_hangsOn S a1 a2 = some o) : gMet K yX6_hangsOn cX6_hangsOn 3 (some Jvm.ClassFile.FieldType.int) rX6_hangsOn [(.ref (kh K)), (.int a1), (.int a2)] M (some S) (some (.int o)) M (some S) := by
  refine gMet.of pn_X6 (Nat.le_of_ble_eq_true rfl) fun X C E => ?_
  unfold fX6_hangsOn at hf
  show GG K X 3 0 0 M (some S) 0 [(0, .ref (kh K)), (1, .int a1), (2, .int a2)] []
  refine GG.aload_n C dX6_hangsOn_0 0 rfl ?_
  refine GG.gm20 C rfl dX6_hangsOn_1 ?_
  refine GG.iload_n C dX6_hangsOn_4 1 rfl ?_
  refine GG.bipush C dX6_hangsOn_5 bp_98 ?_
  refine GG.iadd C dX6_hangsOn_7 ?_
  refine GG.iload_n C dX6_hangsOn_8 2 rfl ?_
  refine GG.iadd C dX6_hangsOn_9 ?_
  obtain ⟨v1, hv1, hf⟩ := obd_some hf
  refine GG.mi C rfl hv1 dX6_hangsOn_10 ?_
  have hf := Option.some.inj hf
  subst hf
  exact GG.iret C E dX6_hangsOn_11
theorem gX6_wouldQuarrel {K : gK} {M : XS}  {S : MS} {a1 : Int32} {a2 : Int32} {a3 : Int32} {o : Int32} (hf : fX6_wouldQuarrel S a1 a2 a3 = some o) : gMet K yX6_wouldQuarrel cX6_wouldQuarrel 4 (some Jvm.ClassFile.FieldType.boolean) rX6_wouldQuarrel [(.ref (kh K)), (.int a1), (.int a2), (.int a3)] M (some S) (some (.int o)) M (some S) := by
  refine gMet.of pn_X6 (Nat.le_of_ble_eq_true rfl) fun X C E => ?_
  unfold fX6_wouldQuarrel at hf
  show GG K X 4 0 0 M (some S) 0 [(0, .ref (kh K)), (1, .int a1), (2, .int a2), (3, .int a3)] []
  refine GG.iload_n C dX6_wouldQuarrel_0 2 rfl ?_
  refine GG.iload_n C dX6_wouldQuarrel_1 3 rfl ?_
  refine GG.icmp_eq C (tgt := 38) dX6_wouldQuarrel_2 (by decide) (fun c1 => ?_) (fun c1 => ?_)
  · have hf := if_t hf c1
    refine GG.iconst C dX6_wouldQuarrel_38 ic_0 ?_
    have hf := Option.some.inj hf
    subst hf
    exact GG.zret C zb_0 E dX6_wouldQuarrel_39
  · have hf := if_f hf c1
    refine GG.aload_n C dX6_wouldQuarrel_5 0 rfl ?_
    refine GG.iload_n C dX6_wouldQuarrel_6 1 rfl ?_
    refine GG.iload_n C dX6_wouldQuarrel_7 2 rfl ?_
    obtain ⟨v2, hv2, hf⟩ := obd_some hf
    refine GG.c_X6_239 C rfl (gX6_kind hv2) ⟨Nat.le_of_ble_eq_true rfl, Nat.le_of_ble_eq_true rfl⟩ ⟨Nat.le_of_ble_eq_true rfl, Nat.le_of_ble_eq_true rfl⟩ (Nat.le_of_ble_eq_true rfl) dX6_wouldQuarrel_8 ?_
    refine GG.aload_n C dX6_wouldQuarrel_11 0 rfl ?_
    refine GG.iload_n C dX6_wouldQuarrel_12 1 rfl ?_
    refine GG.iload_n C dX6_wouldQuarrel_13 3 rfl ?_
    obtain ⟨v3, hv3, hf⟩ := obd_some hf
    refine GG.c_X6_239 C rfl (gX6_kind hv3) ⟨Nat.le_of_ble_eq_true rfl, Nat.le_of_ble_eq_true rfl⟩ ⟨Nat.le_of_ble_eq_true rfl, Nat.le_of_ble_eq_true rfl⟩ (Nat.le_of_ble_eq_true rfl) dX6_wouldQuarrel_14 ?_
    obtain ⟨v4, hv4, hf⟩ := obd_some hf
    refine GG.c_X6_242 C rfl (gX6_fight hv4) ⟨Nat.le_of_ble_eq_true rfl, Nat.le_of_ble_eq_true rfl⟩ ⟨Nat.le_of_ble_eq_true rfl, Nat.le_of_ble_eq_true rfl⟩ (Nat.le_of_ble_eq_true rfl) dX6_wouldQuarrel_17 ?_
    refine GG.if_eq C (tgt := 38) dX6_wouldQuarrel_20 (by decide) (fun c5 => ?_) (fun c5 => ?_)
    · have hf := if_t hf c5
      refine GG.iconst C dX6_wouldQuarrel_38 ic_0 ?_
      have hf := Option.some.inj hf
      subst hf
      exact GG.zret C zb_0 E dX6_wouldQuarrel_39
    · have hf := if_f hf c5
      refine GG.aload_n C dX6_wouldQuarrel_23 0 rfl ?_
      refine GG.iload_n C dX6_wouldQuarrel_24 1 rfl ?_
      refine GG.iload_n C dX6_wouldQuarrel_25 2 rfl ?_
      obtain ⟨v6, hv6, hf⟩ := obd_some hf
      refine GG.c_X6_246 C rfl (gX6_thingOf hv6) ⟨Nat.le_of_ble_eq_true rfl, Nat.le_of_ble_eq_true rfl⟩ ⟨Nat.le_of_ble_eq_true rfl, Nat.le_of_ble_eq_true rfl⟩ (Nat.le_of_ble_eq_true rfl) dX6_wouldQuarrel_26 ?_
      refine GG.aload_n C dX6_wouldQuarrel_29 0 rfl ?_
      refine GG.iload_n C dX6_wouldQuarrel_30 1 rfl ?_
      refine GG.iload_n C dX6_wouldQuarrel_31 3 rfl ?_
      obtain ⟨v7, hv7, hf⟩ := obd_some hf
      refine GG.c_X6_246 C rfl (gX6_thingOf hv7) ⟨Nat.le_of_ble_eq_true rfl, Nat.le_of_ble_eq_true rfl⟩ ⟨Nat.le_of_ble_eq_true rfl, Nat.le_of_ble_eq_true rfl⟩ (Nat.le_of_ble_eq_true rfl) dX6_wouldQuarrel_32 ?_
      refine GG.icmp_eq C (tgt := 40) dX6_wouldQuarrel_35 (by decide) (fun c8 => ?_) (fun c8 => ?_)
      · have hf := if_t hf c8
        refine GG.aload_n C dX6_wouldQuarrel_40 0 rfl ?_
        refine GG.iload_n C dX6_wouldQuarrel_41 1 rfl ?_
        refine GG.iload_n C dX6_wouldQuarrel_42 2 rfl ?_
        obtain ⟨v9, hv9, hf⟩ := obd_some hf
        refine GG.c_X6_249 C rfl (gX6_hangsOn hv9) ⟨Nat.le_of_ble_eq_true rfl, Nat.le_of_ble_eq_true rfl⟩ ⟨Nat.le_of_ble_eq_true rfl, Nat.le_of_ble_eq_true rfl⟩ (Nat.le_of_ble_eq_true rfl) dX6_wouldQuarrel_43 ?_
        refine GG.iload_n C dX6_wouldQuarrel_46 3 rfl ?_
        refine GG.ishr C dX6_wouldQuarrel_47 ?_
        refine GG.iconst C dX6_wouldQuarrel_48 ic_1 ?_
        refine GG.iand C dX6_wouldQuarrel_49 ?_
        refine GG.if_ne C (tgt := 70) dX6_wouldQuarrel_50 (by decide) (fun c10 => ?_) (fun c10 => ?_)
        · have hf := if_f hf c10
          refine GG.iconst C dX6_wouldQuarrel_70 ic_0 ?_
          have hf := Option.some.inj hf
          subst hf
          exact GG.zret C zb_0 E dX6_wouldQuarrel_71
        · have hf := if_t hf c10
          refine GG.aload_n C dX6_wouldQuarrel_53 0 rfl ?_
          refine GG.iload_n C dX6_wouldQuarrel_54 1 rfl ?_
          refine GG.iload_n C dX6_wouldQuarrel_55 3 rfl ?_
          obtain ⟨v11, hv11, hf⟩ := obd_some hf
          refine GG.c_X6_249 C rfl (gX6_hangsOn hv11) ⟨Nat.le_of_ble_eq_true rfl, Nat.le_of_ble_eq_true rfl⟩ ⟨Nat.le_of_ble_eq_true rfl, Nat.le_of_ble_eq_true rfl⟩ (Nat.le_of_ble_eq_true rfl) dX6_wouldQuarrel_56 ?_
          refine GG.iload_n C dX6_wouldQuarrel_59 2 rfl ?_
          refine GG.ishr C dX6_wouldQuarrel_60 ?_
          refine GG.iconst C dX6_wouldQuarrel_61 ic_1 ?_
          refine GG.iand C dX6_wouldQuarrel_62 ?_
          refine GG.if_ne C (tgt := 70) dX6_wouldQuarrel_63 (by decide) (fun c12 => ?_) (fun c12 => ?_)
          · have hf := if_f hf c12
            refine GG.iconst C dX6_wouldQuarrel_70 ic_0 ?_
            have hf := Option.some.inj hf
            subst hf
            exact GG.zret C zb_0 E dX6_wouldQuarrel_71
          · have hf := if_t hf c12
            refine GG.iconst C dX6_wouldQuarrel_66 ic_1 ?_
            refine GG.goto C (tgt := 71) dX6_wouldQuarrel_67 (by decide) ?_
            have hf := Option.some.inj hf
            subst hf
            exact GG.zret C zb_1 E dX6_wouldQuarrel_71
      · have hf := if_f hf c8
        refine GG.iconst C dX6_wouldQuarrel_38 ic_0 ?_
        have hf := Option.some.inj hf
        subst hf
        exact GG.zret C zb_0 E dX6_wouldQuarrel_39
theorem gX6_readSettle_59 {K : gK} {X : gX} {M : XS} (C : gC K X cX6_readSettle 4 yX6_readSettle (some Jvm.ClassFile.FieldType.int) rX6_readSettle)  {o : (Int32 × MS)} (E : gE K X (some (.int o.1)) M (some o.2) rX6_readSettle.cells rX6_readSettle.slots)   :
    ∀ (S : MS) (a1 : Int32) (a2 : Int32) (a3 : Int32), fX6_readSettle_59  S a1 a2 a3 = some o → GG K X 4 0 0 M (some S) 59 [(0, .ref (kh K)), (1, .int a1), (2, .int a2), (3, .int a3)] [] := by
  intro S a1 a2 a3 hf
  unfold fX6_readSettle_59 at hf
  refine GG.aload_n C dX6_readSettle_59 0 rfl ?_
  refine GG.iconst C dX6_readSettle_60 ic_1 ?_
  obtain ⟨p12, hp12, hf⟩ := obd_some hf
  refine GG.c_X6_252 C rfl (gX6_must hp12) ⟨Nat.le_of_ble_eq_true rfl, Nat.le_of_ble_eq_true rfl⟩ ⟨Nat.le_of_ble_eq_true rfl, Nat.le_of_ble_eq_true rfl⟩ (Nat.le_of_ble_eq_true rfl) dX6_readSettle_61 ?_
  refine GG.aload_n C dX6_readSettle_64 0 rfl ?_
  refine GG.gm12 C rfl dX6_readSettle_65 ?_
  refine GG.if_le C (tgt := 73) dX6_readSettle_68 (by decide) (fun c13 => ?_) (fun c13 => ?_)
  · have hf := if_t hf c13
    refine GG.aload_n C dX6_readSettle_73 0 rfl ?_
    refine GG.gm20 C rfl dX6_readSettle_74 ?_
    refine GG.sipush C dX6_readSettle_77 sp_1490 ?_
    refine GG.iload_n C dX6_readSettle_80 1 rfl ?_
    refine GG.iadd C dX6_readSettle_81 ?_
    refine GG.iload_n C dX6_readSettle_82 2 rfl ?_
    obtain ⟨S14, hS14, hf⟩ := obd_some hf
    refine GG.mis C rfl hS14 dX6_readSettle_83 ?_
    refine GG.aload_n C dX6_readSettle_84 0 rfl ?_
    refine GG.gm20 C rfl dX6_readSettle_85 ?_
    refine GG.sipush C dX6_readSettle_88 sp_1506 ?_
    refine GG.iload_n C dX6_readSettle_91 1 rfl ?_
    refine GG.iadd C dX6_readSettle_92 ?_
    refine GG.iload_n C dX6_readSettle_93 3 rfl ?_
    obtain ⟨S15, hS15, hf⟩ := obd_some hf
    refine GG.mis C rfl hS15 dX6_readSettle_94 ?_
    refine GG.iconst C dX6_readSettle_95 ic_1 ?_
    refine GG.iload_n C dX6_readSettle_96 2 rfl ?_
    refine GG.ishl C dX6_readSettle_97 ?_
    refine GG.iconst C dX6_readSettle_98 ic_1 ?_
    refine GG.iload_n C dX6_readSettle_99 3 rfl ?_
    refine GG.ishl C dX6_readSettle_100 ?_
    refine GG.ior C dX6_readSettle_101 ?_
    have hf := Option.some.inj hf
    subst hf
    exact GG.iret C E dX6_readSettle_102
  · have hf := if_f hf c13
    refine GG.iconst C dX6_readSettle_71 ic_0 ?_
    have hf := Option.some.inj hf
    subst hf
    exact GG.iret C E dX6_readSettle_72
theorem gX6_readSettle {K : gK} {M : XS}  {S : MS} {a1 : Int32} {o : (Int32 × MS)} (hf : fX6_readSettle S a1 = some o) : gMet K yX6_readSettle cX6_readSettle 4 (some Jvm.ClassFile.FieldType.int) rX6_readSettle [(.ref (kh K)), (.int a1)] M (some S) (some (.int o.1)) M (some o.2) := by
  refine gMet.of pn_X6 (Nat.le_of_ble_eq_true rfl) fun X C E => ?_
  unfold fX6_readSettle at hf
  show GG K X 4 0 0 M (some S) 0 [(0, .ref (kh K)), (1, .int a1)] []
  refine GG.aload_n C dX6_readSettle_0 0 rfl ?_
  refine GG.aload_n C dX6_readSettle_1 0 rfl ?_
  obtain ⟨v1, hv1, hf⟩ := obd_some hf
  refine GG.c_X6_170 C rfl (gX6_isOf hv1) ⟨Nat.le_of_ble_eq_true rfl, Nat.le_of_ble_eq_true rfl⟩ ⟨Nat.le_of_ble_eq_true rfl, Nat.le_of_ble_eq_true rfl⟩ (Nat.le_of_ble_eq_true rfl) dX6_readSettle_2 ?_
  obtain ⟨p2, hp2, hf⟩ := obd_some hf
  refine GG.c_X6_252 C rfl (gX6_must hp2) ⟨Nat.le_of_ble_eq_true rfl, Nat.le_of_ble_eq_true rfl⟩ ⟨Nat.le_of_ble_eq_true rfl, Nat.le_of_ble_eq_true rfl⟩ (Nat.le_of_ble_eq_true rfl) dX6_readSettle_5 ?_
  refine GG.aload_n C dX6_readSettle_8 0 rfl ?_
  obtain ⟨p3, hp3, hf⟩ := obd_some hf
  refine GG.c_X6_259 C rfl (gX6_readQuarreler hp3) ⟨Nat.le_of_ble_eq_true rfl, Nat.le_of_ble_eq_true rfl⟩ ⟨Nat.le_of_ble_eq_true rfl, Nat.le_of_ble_eq_true rfl⟩ (Nat.le_of_ble_eq_true rfl) dX6_readSettle_9 ?_
  refine GG.istore_n C (lv' := [(2, .int p3.1), (0, .ref (kh K)), (1, .int a1)]) dX6_readSettle_12 (by decide) rfl ?_
  refine GG.aload_n C dX6_readSettle_13 1 rfl ?_
  refine GG.iconst C dX6_readSettle_14 ic_1 ?_
  obtain ⟨p4, hp4, hf⟩ := obd_some hf
  refine GG.c_X6_252 C rfl (gX6_must hp4) ⟨Nat.le_of_ble_eq_true rfl, Nat.le_of_ble_eq_true rfl⟩ ⟨Nat.le_of_ble_eq_true rfl, Nat.le_of_ble_eq_true rfl⟩ (Nat.le_of_ble_eq_true rfl) dX6_readSettle_15 ?_
  refine GG.aload_n C dX6_readSettle_18 1 rfl ?_
  refine GG.aload_n C dX6_readSettle_19 1 rfl ?_
  obtain ⟨v5, hv5, hf⟩ := obd_some hf
  refine GG.c_X6_173 C rfl (gX6_isNot hv5) ⟨Nat.le_of_ble_eq_true rfl, Nat.le_of_ble_eq_true rfl⟩ ⟨Nat.le_of_ble_eq_true rfl, Nat.le_of_ble_eq_true rfl⟩ (Nat.le_of_ble_eq_true rfl) dX6_readSettle_20 ?_
  obtain ⟨p6, hp6, hf⟩ := obd_some hf
  refine GG.c_X6_252 C rfl (gX6_must hp6) ⟨Nat.le_of_ble_eq_true rfl, Nat.le_of_ble_eq_true rfl⟩ ⟨Nat.le_of_ble_eq_true rfl, Nat.le_of_ble_eq_true rfl⟩ (Nat.le_of_ble_eq_true rfl) dX6_readSettle_23 ?_
  refine GG.aload_n C dX6_readSettle_26 1 rfl ?_
  obtain ⟨p7, hp7, hf⟩ := obd_some hf
  refine GG.c_X6_259 C rfl (gX6_readQuarreler hp7) ⟨Nat.le_of_ble_eq_true rfl, Nat.le_of_ble_eq_true rfl⟩ ⟨Nat.le_of_ble_eq_true rfl, Nat.le_of_ble_eq_true rfl⟩ (Nat.le_of_ble_eq_true rfl) dX6_readSettle_27 ?_
  refine GG.istore_n C (lv' := [(3, .int p7.1), (2, .int p3.1), (0, .ref (kh K)), (1, .int a1)]) dX6_readSettle_30 (by decide) rfl ?_
  refine GG.aload_n C dX6_readSettle_31 2 rfl ?_
  refine GG.gm12 C rfl dX6_readSettle_32 ?_
  refine GG.if_ne C (tgt := 59) dX6_readSettle_35 (by decide) (fun c8 => ?_) (fun c8 => ?_)
  · have hf := if_f hf c8
    refine GG.sub [2, 3, 1, 0] rfl ?_
    exact gX6_readSettle_59 C E  _ _ _ _ hf
  · have hf := if_t hf c8
    refine GG.aload_n C dX6_readSettle_38 2 rfl ?_
    refine GG.sipush C dX6_readSettle_39 sp_1440 ?_
    refine GG.iload_n C dX6_readSettle_42 1 rfl ?_
    refine GG.iload_n C dX6_readSettle_43 0 rfl ?_
    obtain ⟨v9, hv9, hf⟩ := obd_some hf
    refine GG.c_X6_262 C rfl (gX6_wouldQuarrel hv9) ⟨Nat.le_of_ble_eq_true rfl, Nat.le_of_ble_eq_true rfl⟩ ⟨Nat.le_of_ble_eq_true rfl, Nat.le_of_ble_eq_true rfl⟩ (Nat.le_of_ble_eq_true rfl) dX6_readSettle_44 ?_
    refine GG.if_ne C (tgt := 59) dX6_readSettle_47 (by decide) (fun c10 => ?_) (fun c10 => ?_)
    · have hf := if_f hf c10
      refine GG.sub [2, 3, 1, 0] rfl ?_
      exact gX6_readSettle_59 C E  _ _ _ _ hf
    · have hf := if_t hf c10
      refine GG.aload_n C dX6_readSettle_50 2 rfl ?_
      refine GG.iconst C dX6_readSettle_51 ic_5 ?_
      refine GG.aload_n C dX6_readSettle_52 2 rfl ?_
      refine GG.gm15 C rfl dX6_readSettle_53 ?_
      obtain ⟨p11, hp11, hf⟩ := obd_some hf
      refine GG.c_X6_215 C rfl (gX6_fail hp11) ⟨Nat.le_of_ble_eq_true rfl, Nat.le_of_ble_eq_true rfl⟩ ⟨Nat.le_of_ble_eq_true rfl, Nat.le_of_ble_eq_true rfl⟩ (Nat.le_of_ble_eq_true rfl) dX6_readSettle_56 ?_
      refine GG.sub [2, 3, 1, 0] rfl ?_
      exact gX6_readSettle_59 C E  _ _ _ _ hf
theorem gX6_readOf {K : gK} {M : XS}  {S : MS} {o : (Int32 × MS)} (hf : fX6_readOf S = some o) : gMet K yX6_readOf cX6_readOf 2 (some Jvm.ClassFile.FieldType.int) rX6_readOf [(.ref (kh K))] M (some S) (some (.int o.1)) M (some o.2) := by
  refine gMet.of pn_X6 (Nat.le_of_ble_eq_true rfl) fun X C E => ?_
  unfold fX6_readOf at hf
  show GG K X 2 0 0 M (some S) 0 [(0, .ref (kh K))] []
  refine GG.aload_n C dX6_readOf_0 0 rfl ?_
  refine GG.aload_n C dX6_readOf_1 0 rfl ?_
  obtain ⟨v1, hv1, hf⟩ := obd_some hf
  refine GG.c_X6_170 C rfl (gX6_isOf hv1) ⟨Nat.le_of_ble_eq_true rfl, Nat.le_of_ble_eq_true rfl⟩ ⟨Nat.le_of_ble_eq_true rfl, Nat.le_of_ble_eq_true rfl⟩ (Nat.le_of_ble_eq_true rfl) dX6_readOf_2 ?_
  obtain ⟨p2, hp2, hf⟩ := obd_some hf
  refine GG.c_X6_252 C rfl (gX6_must hp2) ⟨Nat.le_of_ble_eq_true rfl, Nat.le_of_ble_eq_true rfl⟩ ⟨Nat.le_of_ble_eq_true rfl, Nat.le_of_ble_eq_true rfl⟩ (Nat.le_of_ble_eq_true rfl) dX6_readOf_5 ?_
  refine GG.aload_n C dX6_readOf_8 0 rfl ?_
  obtain ⟨p3, hp3, hf⟩ := obd_some hf
  refine GG.c_X6_256 C rfl (gX6_readTold hp3) ⟨Nat.le_of_ble_eq_true rfl, Nat.le_of_ble_eq_true rfl⟩ ⟨Nat.le_of_ble_eq_true rfl, Nat.le_of_ble_eq_true rfl⟩ (Nat.le_of_ble_eq_true rfl) dX6_readOf_9 ?_
  refine GG.istore_n C (lv' := [(1, .int p3.1), (0, .ref (kh K))]) dX6_readOf_12 (by decide) rfl ?_
  refine GG.aload_n C dX6_readOf_13 1 rfl ?_
  refine GG.gm12 C rfl dX6_readOf_14 ?_
  refine GG.if_ne C (tgt := 53) dX6_readOf_17 (by decide) (fun c4 => ?_) (fun c4 => ?_)
  · have hf := if_f hf c4
    refine GG.aload_n C dX6_readOf_53 1 rfl ?_
    refine GG.iconst C dX6_readOf_54 ic_1 ?_
    obtain ⟨p5, hp5, hf⟩ := obd_some hf
    refine GG.c_X6_252 C rfl (gX6_must hp5) ⟨Nat.le_of_ble_eq_true rfl, Nat.le_of_ble_eq_true rfl⟩ ⟨Nat.le_of_ble_eq_true rfl, Nat.le_of_ble_eq_true rfl⟩ (Nat.le_of_ble_eq_true rfl) dX6_readOf_55 ?_
    refine GG.iload_n C dX6_readOf_58 0 rfl ?_
    have hf := Option.some.inj hf
    subst hf
    exact GG.iret C E dX6_readOf_59
  · have hf := if_t hf c4
    refine GG.aload_n C dX6_readOf_20 1 rfl ?_
    refine GG.sipush C dX6_readOf_21 sp_1440 ?_
    refine GG.iload_n C dX6_readOf_24 0 rfl ?_
    obtain ⟨v6, hv6, hf⟩ := obd_some hf
    refine GG.c_X6_239 C rfl (gX6_kind hv6) ⟨Nat.le_of_ble_eq_true rfl, Nat.le_of_ble_eq_true rfl⟩ ⟨Nat.le_of_ble_eq_true rfl, Nat.le_of_ble_eq_true rfl⟩ (Nat.le_of_ble_eq_true rfl) dX6_readOf_25 ?_
    refine GG.iconst C dX6_readOf_28 ic_1 ?_
    refine GG.icmp_eq C (tgt := 44) dX6_readOf_29 (by decide) (fun c7 => ?_) (fun c7 => ?_)
    · have hf := if_t hf c7
      refine GG.aload_n C dX6_readOf_44 1 rfl ?_
      refine GG.iconst C dX6_readOf_45 ic_5 ?_
      refine GG.aload_n C dX6_readOf_46 1 rfl ?_
      refine GG.gm15 C rfl dX6_readOf_47 ?_
      obtain ⟨p8, hp8, hf⟩ := obd_some hf
      refine GG.c_X6_215 C rfl (gX6_fail hp8) ⟨Nat.le_of_ble_eq_true rfl, Nat.le_of_ble_eq_true rfl⟩ ⟨Nat.le_of_ble_eq_true rfl, Nat.le_of_ble_eq_true rfl⟩ (Nat.le_of_ble_eq_true rfl) dX6_readOf_50 ?_
      refine GG.aload_n C dX6_readOf_53 1 rfl ?_
      refine GG.iconst C dX6_readOf_54 ic_1 ?_
      obtain ⟨p9, hp9, hf⟩ := obd_some hf
      refine GG.c_X6_252 C rfl (gX6_must hp9) ⟨Nat.le_of_ble_eq_true rfl, Nat.le_of_ble_eq_true rfl⟩ ⟨Nat.le_of_ble_eq_true rfl, Nat.le_of_ble_eq_true rfl⟩ (Nat.le_of_ble_eq_true rfl) dX6_readOf_55 ?_
      refine GG.iload_n C dX6_readOf_58 0 rfl ?_
      have hf := Option.some.inj hf
      subst hf
      exact GG.iret C E dX6_readOf_59
    · have hf := if_f hf c7
      refine GG.aload_n C dX6_readOf_32 1 rfl ?_
      refine GG.sipush C dX6_readOf_33 sp_1440 ?_
      refine GG.iload_n C dX6_readOf_36 0 rfl ?_
      obtain ⟨v10, hv10, hf⟩ := obd_some hf
      refine GG.c_X6_239 C rfl (gX6_kind hv10) ⟨Nat.le_of_ble_eq_true rfl, Nat.le_of_ble_eq_true rfl⟩ ⟨Nat.le_of_ble_eq_true rfl, Nat.le_of_ble_eq_true rfl⟩ (Nat.le_of_ble_eq_true rfl) dX6_readOf_37 ?_
      refine GG.iconst C dX6_readOf_40 ic_4 ?_
      refine GG.icmp_ne C (tgt := 53) dX6_readOf_41 (by decide) (fun c11 => ?_) (fun c11 => ?_)
      · have hf := if_f hf c11
        refine GG.aload_n C dX6_readOf_53 1 rfl ?_
        refine GG.iconst C dX6_readOf_54 ic_1 ?_
        obtain ⟨p12, hp12, hf⟩ := obd_some hf
        refine GG.c_X6_252 C rfl (gX6_must hp12) ⟨Nat.le_of_ble_eq_true rfl, Nat.le_of_ble_eq_true rfl⟩ ⟨Nat.le_of_ble_eq_true rfl, Nat.le_of_ble_eq_true rfl⟩ (Nat.le_of_ble_eq_true rfl) dX6_readOf_55 ?_
        refine GG.iload_n C dX6_readOf_58 0 rfl ?_
        have hf := Option.some.inj hf
        subst hf
        exact GG.iret C E dX6_readOf_59
      · have hf := if_t hf c11
        refine GG.aload_n C dX6_readOf_44 1 rfl ?_
        refine GG.iconst C dX6_readOf_45 ic_5 ?_
        refine GG.aload_n C dX6_readOf_46 1 rfl ?_
        refine GG.gm15 C rfl dX6_readOf_47 ?_
        obtain ⟨p13, hp13, hf⟩ := obd_some hf
        refine GG.c_X6_215 C rfl (gX6_fail hp13) ⟨Nat.le_of_ble_eq_true rfl, Nat.le_of_ble_eq_true rfl⟩ ⟨Nat.le_of_ble_eq_true rfl, Nat.le_of_ble_eq_true rfl⟩ (Nat.le_of_ble_eq_true rfl) dX6_readOf_50 ?_
        refine GG.aload_n C dX6_readOf_53 1 rfl ?_
        refine GG.iconst C dX6_readOf_54 ic_1 ?_
        obtain ⟨p14, hp14, hf⟩ := obd_some hf
        refine GG.c_X6_252 C rfl (gX6_must hp14) ⟨Nat.le_of_ble_eq_true rfl, Nat.le_of_ble_eq_true rfl⟩ ⟨Nat.le_of_ble_eq_true rfl, Nat.le_of_ble_eq_true rfl⟩ (Nat.le_of_ble_eq_true rfl) dX6_readOf_55 ?_
        refine GG.iload_n C dX6_readOf_58 0 rfl ?_
        have hf := Option.some.inj hf
        subst hf
        exact GG.iret C E dX6_readOf_59
theorem gX6_isIn {K : gK} {M : XS} {S : Option MS}  {a0 : Int64} {a2 : Int64} {a4 : Int64} {o : Int32} (hf : fX6_isIn a0 a2 a4 = some o) : gMet K yX6_isIn cX6_isIn 6 (some Jvm.ClassFile.FieldType.boolean) rX6_isIn [(.long a0), (.long a2), (.long a4)] M S (some (.int o)) M S := by
  refine gMet.of pn_X6 (Nat.le_of_ble_eq_true rfl) fun X C E => ?_
  unfold fX6_isIn at hf
  show GG K X 6 0 0 M S 0 [(0, .long a0), (2, .long a2), (4, .long a4)] []
  refine GG.lload_n C dX6_isIn_0 0 rfl ?_
  refine GG.lload_n C dX6_isIn_1 1 rfl ?_
  refine GG.lcmp C dX6_isIn_2 ?_
  refine GG.if_lt C (tgt := 17) dX6_isIn_3 (by decide) (fun c1 => ?_) (fun c1 => ?_)
  · have hf := if_t hf c1
    refine GG.iconst C dX6_isIn_17 ic_0 ?_
    have hf := Option.some.inj hf
    subst hf
    exact GG.zret C zb_0 E dX6_isIn_18
  · have hf := if_f hf c1
    refine GG.lload_n C dX6_isIn_6 0 rfl ?_
    refine GG.lload C dX6_isIn_7 2 rfl ?_
    refine GG.lcmp C dX6_isIn_9 ?_
    refine GG.if_gt C (tgt := 17) dX6_isIn_10 (by decide) (fun c2 => ?_) (fun c2 => ?_)
    · have hf := if_t hf c2
      refine GG.iconst C dX6_isIn_17 ic_0 ?_
      have hf := Option.some.inj hf
      subst hf
      exact GG.zret C zb_0 E dX6_isIn_18
    · have hf := if_f hf c2
      refine GG.iconst C dX6_isIn_13 ic_1 ?_
      refine GG.goto C (tgt := 18) dX6_isIn_14 (by decide) ?_
      have hf := Option.some.inj hf
      subst hf
      exact GG.zret C zb_1 E dX6_isIn_18
theorem gX6_count_19 {K : gK} {X : gX} {M : XS} (C : gC K X cX6_count 4 yX6_count (some Jvm.ClassFile.FieldType.int) rX6_count)  {o : (Int32 × MS)} (E : gE K X (some (.int o.1)) M (some o.2) rX6_count.cells rX6_count.slots)   :
    ∀ (S : MS) (a1 : Int32) (a2 : Int32), fX6_count_19  S a1 a2 = some o → GG K X 4 0 0 M (some S) 19 [(0, .ref (kh K)), (1, .int a1), (2, .int a2)] [] := by
  intro S a1 a2 hf
  unfold fX6_count_19 at hf
  refine GG.aload_n C dX6_count_19 0 rfl ?_
  refine GG.gm12 C rfl dX6_count_20 ?_
  refine GG.if_ne C (tgt := 50) dX6_count_23 (by decide) (fun c4 => ?_) (fun c4 => ?_)
  · have hf := if_f hf c4
    refine GG.aload_n C dX6_count_50 0 rfl ?_
    refine GG.gm12 C rfl dX6_count_51 ?_
    refine GG.if_le C (tgt := 59) dX6_count_54 (by decide) (fun c5 => ?_) (fun c5 => ?_)
    · have hf := if_t hf c5
      refine GG.aload_n C dX6_count_59 0 rfl ?_
      refine GG.gm17 C rfl dX6_count_60 ?_
      refine GG.topi fun x6 hx6 => ?_
      have hf := ltb_s hx6 hf
      refine GG.istore_n C (lv' := [(3, .int x6), (0, .ref (kh K)), (1, .int a1), (2, .int a2)]) dX6_count_63 (by decide) rfl ?_
      refine GG.aload_n C dX6_count_64 1 rfl ?_
      obtain ⟨p7, hp7, hf⟩ := obd_some hf
      refine GG.c_X6_219 C rfl (gX6_next hp7) ⟨Nat.le_of_ble_eq_true rfl, Nat.le_of_ble_eq_true rfl⟩ ⟨Nat.le_of_ble_eq_true rfl, Nat.le_of_ble_eq_true rfl⟩ (Nat.le_of_ble_eq_true rfl) dX6_count_65 ?_
      refine GG.iload_n C dX6_count_68 0 rfl ?_
      have hf := Option.some.inj hf
      subst hf
      exact GG.iret C E dX6_count_69
    · have hf := if_f hf c5
      refine GG.iconst C dX6_count_57 ic_0 ?_
      have hf := Option.some.inj hf
      subst hf
      exact GG.iret C E dX6_count_58
  · have hf := if_t hf c4
    refine GG.aload_n C dX6_count_26 0 rfl ?_
    refine GG.gm17 C rfl dX6_count_27 ?_
    refine GG.i2l C dX6_count_30 ?_
    refine GG.iload_n C dX6_count_31 1 rfl ?_
    refine GG.i2l C dX6_count_32 ?_
    refine GG.iload_n C dX6_count_33 2 rfl ?_
    refine GG.i2l C dX6_count_34 ?_
    obtain ⟨v8, hv8, hf⟩ := obd_some hf
    refine GG.c_X6_110 C rfl (gX6_isIn hv8) ⟨Nat.le_of_ble_eq_true rfl, Nat.le_of_ble_eq_true rfl⟩ ⟨Nat.le_of_ble_eq_true rfl, Nat.le_of_ble_eq_true rfl⟩ (Nat.le_of_ble_eq_true rfl) dX6_count_35 ?_
    refine GG.if_ne C (tgt := 50) dX6_count_38 (by decide) (fun c9 => ?_) (fun c9 => ?_)
    · have hf := if_f hf c9
      refine GG.aload_n C dX6_count_50 0 rfl ?_
      refine GG.gm12 C rfl dX6_count_51 ?_
      refine GG.if_le C (tgt := 59) dX6_count_54 (by decide) (fun c10 => ?_) (fun c10 => ?_)
      · have hf := if_t hf c10
        refine GG.aload_n C dX6_count_59 0 rfl ?_
        refine GG.gm17 C rfl dX6_count_60 ?_
        refine GG.topi fun x11 hx11 => ?_
        have hf := ltb_s hx11 hf
        refine GG.istore_n C (lv' := [(3, .int x11), (0, .ref (kh K)), (1, .int a1), (2, .int a2)]) dX6_count_63 (by decide) rfl ?_
        refine GG.aload_n C dX6_count_64 1 rfl ?_
        obtain ⟨p12, hp12, hf⟩ := obd_some hf
        refine GG.c_X6_219 C rfl (gX6_next hp12) ⟨Nat.le_of_ble_eq_true rfl, Nat.le_of_ble_eq_true rfl⟩ ⟨Nat.le_of_ble_eq_true rfl, Nat.le_of_ble_eq_true rfl⟩ (Nat.le_of_ble_eq_true rfl) dX6_count_65 ?_
        refine GG.iload_n C dX6_count_68 0 rfl ?_
        have hf := Option.some.inj hf
        subst hf
        exact GG.iret C E dX6_count_69
      · have hf := if_f hf c10
        refine GG.iconst C dX6_count_57 ic_0 ?_
        have hf := Option.some.inj hf
        subst hf
        exact GG.iret C E dX6_count_58
    · have hf := if_t hf c9
      refine GG.aload_n C dX6_count_41 0 rfl ?_
      refine GG.iconst C dX6_count_42 ic_4 ?_
      refine GG.aload_n C dX6_count_43 0 rfl ?_
      refine GG.gm15 C rfl dX6_count_44 ?_
      obtain ⟨p13, hp13, hf⟩ := obd_some hf
      refine GG.c_X6_215 C rfl (gX6_fail hp13) ⟨Nat.le_of_ble_eq_true rfl, Nat.le_of_ble_eq_true rfl⟩ ⟨Nat.le_of_ble_eq_true rfl, Nat.le_of_ble_eq_true rfl⟩ (Nat.le_of_ble_eq_true rfl) dX6_count_47 ?_
      refine GG.aload_n C dX6_count_50 0 rfl ?_
      refine GG.gm12 C rfl dX6_count_51 ?_
      refine GG.if_le C (tgt := 59) dX6_count_54 (by decide) (fun c14 => ?_) (fun c14 => ?_)
      · have hf := if_t hf c14
        refine GG.aload_n C dX6_count_59 0 rfl ?_
        refine GG.gm17 C rfl dX6_count_60 ?_
        refine GG.topi fun x15 hx15 => ?_
        have hf := ltb_s hx15 hf
        refine GG.istore_n C (lv' := [(3, .int x15), (0, .ref (kh K)), (1, .int a1), (2, .int a2)]) dX6_count_63 (by decide) rfl ?_
        refine GG.aload_n C dX6_count_64 1 rfl ?_
        obtain ⟨p16, hp16, hf⟩ := obd_some hf
        refine GG.c_X6_219 C rfl (gX6_next hp16) ⟨Nat.le_of_ble_eq_true rfl, Nat.le_of_ble_eq_true rfl⟩ ⟨Nat.le_of_ble_eq_true rfl, Nat.le_of_ble_eq_true rfl⟩ (Nat.le_of_ble_eq_true rfl) dX6_count_65 ?_
        refine GG.iload_n C dX6_count_68 0 rfl ?_
        have hf := Option.some.inj hf
        subst hf
        exact GG.iret C E dX6_count_69
      · have hf := if_f hf c14
        refine GG.iconst C dX6_count_57 ic_0 ?_
        have hf := Option.some.inj hf
        subst hf
        exact GG.iret C E dX6_count_58
theorem gX6_count {K : gK} {M : XS}  {S : MS} {a1 : Int32} {a2 : Int32} {o : (Int32 × MS)} (hf : fX6_count S a1 a2 = some o) : gMet K yX6_count cX6_count 4 (some Jvm.ClassFile.FieldType.int) rX6_count [(.ref (kh K)), (.int a1), (.int a2)] M (some S) (some (.int o.1)) M (some o.2) := by
  refine gMet.of pn_X6 (Nat.le_of_ble_eq_true rfl) fun X C E => ?_
  unfold fX6_count at hf
  show GG K X 4 0 0 M (some S) 0 [(0, .ref (kh K)), (1, .int a1), (2, .int a2)] []
  refine GG.aload_n C dX6_count_0 0 rfl ?_
  refine GG.gm12 C rfl dX6_count_1 ?_
  refine GG.if_ne C (tgt := 19) dX6_count_4 (by decide) (fun c1 => ?_) (fun c1 => ?_)
  · have hf := if_f hf c1
    refine GG.sub [0, 1, 2] rfl ?_
    exact gX6_count_19 C E  _ _ _ hf
  · have hf := if_t hf c1
    refine GG.aload_n C dX6_count_7 0 rfl ?_
    refine GG.gm14 C rfl dX6_count_8 ?_
    refine GG.iconst C dX6_count_11 ic_2 ?_
    refine GG.icmp_eq C (tgt := 19) dX6_count_12 (by decide) (fun c2 => ?_) (fun c2 => ?_)
    · have hf := if_t hf c2
      refine GG.sub [0, 1, 2] rfl ?_
      exact gX6_count_19 C E  _ _ _ hf
    · have hf := if_f hf c2
      refine GG.aload_n C dX6_count_15 0 rfl ?_
      obtain ⟨p3, hp3, hf⟩ := obd_some hf
      refine GG.c_X6_222 C rfl (gX6_wrong hp3) ⟨Nat.le_of_ble_eq_true rfl, Nat.le_of_ble_eq_true rfl⟩ ⟨Nat.le_of_ble_eq_true rfl, Nat.le_of_ble_eq_true rfl⟩ (Nat.le_of_ble_eq_true rfl) dX6_count_16 ?_
      refine GG.sub [0, 1, 2] rfl ?_
      exact gX6_count_19 C E  _ _ _ hf
theorem gX6_readWhat_99 {K : gK} {X : gX} {M : XS} (C : gC K X cX6_readWhat 4 yX6_readWhat (some Jvm.ClassFile.FieldType.int) rX6_readWhat)  {o : (Int32 × MS)} (E : gE K X (some (.int o.1)) M (some o.2) rX6_readWhat.cells rX6_readWhat.slots)   :
    ∀ (S : MS) (a2 : Int32) (a3 : Int32), fX6_readWhat_99  S a2 a3 = some o → GG K X 4 0 0 M (some S) 99 [(0, .ref (kh K)), (2, .int a2), (3, .int a3)] [] := by
  intro S a2 a3 hf
  unfold fX6_readWhat_99 at hf
  refine GG.aload_n C dX6_readWhat_99 0 rfl ?_
  refine GG.aload_n C dX6_readWhat_100 0 rfl ?_
  obtain ⟨v13, hv13, hf⟩ := obd_some hf
  refine GG.c_X6_167 C rfl (gX6_isSays hv13) ⟨Nat.le_of_ble_eq_true rfl, Nat.le_of_ble_eq_true rfl⟩ ⟨Nat.le_of_ble_eq_true rfl, Nat.le_of_ble_eq_true rfl⟩ (Nat.le_of_ble_eq_true rfl) dX6_readWhat_101 ?_
  obtain ⟨p14, hp14, hf⟩ := obd_some hf
  refine GG.c_X6_252 C rfl (gX6_must hp14) ⟨Nat.le_of_ble_eq_true rfl, Nat.le_of_ble_eq_true rfl⟩ ⟨Nat.le_of_ble_eq_true rfl, Nat.le_of_ble_eq_true rfl⟩ (Nat.le_of_ble_eq_true rfl) dX6_readWhat_104 ?_
  refine GG.aload_n C dX6_readWhat_107 0 rfl ?_
  refine GG.gm20 C rfl dX6_readWhat_108 ?_
  refine GG.sipush C dX6_readWhat_111 sp_1474 ?_
  refine GG.iload_n C dX6_readWhat_114 1 rfl ?_
  refine GG.iadd C dX6_readWhat_115 ?_
  refine GG.aload_n C dX6_readWhat_116 0 rfl ?_
  refine GG.iconst C dX6_readWhat_117 ic_0 ?_
  refine GG.sipush C dX6_readWhat_118 sp_9999 ?_
  obtain ⟨p15, hp15, hf⟩ := obd_some hf
  refine GG.c_X6_272 C rfl (gX6_count hp15) ⟨Nat.le_of_ble_eq_true rfl, Nat.le_of_ble_eq_true rfl⟩ ⟨Nat.le_of_ble_eq_true rfl, Nat.le_of_ble_eq_true rfl⟩ (Nat.le_of_ble_eq_true rfl) dX6_readWhat_121 ?_
  obtain ⟨S16, hS16, hf⟩ := obd_some hf
  refine GG.mis C rfl hS16 dX6_readWhat_124 ?_
  refine GG.iload_n C dX6_readWhat_125 2 rfl ?_
  have hf := Option.some.inj hf
  subst hf
  exact GG.iret C E dX6_readWhat_126
theorem gX6_readWhat_64 {K : gK} {X : gX} {M : XS} (C : gC K X cX6_readWhat 4 yX6_readWhat (some Jvm.ClassFile.FieldType.int) rX6_readWhat)  {o : (Int32 × MS)} (E : gE K X (some (.int o.1)) M (some o.2) rX6_readWhat.cells rX6_readWhat.slots)   :
    ∀ (S : MS) (a1 : Int32) (a2 : Int32) (a3 : Int32), fX6_readWhat_64  S a1 a2 a3 = some o → GG K X 4 0 0 M (some S) 64 [(0, .ref (kh K)), (1, .int a1), (2, .int a2), (3, .int a3)] [] := by
  intro S a1 a2 a3 hf
  unfold fX6_readWhat_64 at hf
  refine GG.aload_n C dX6_readWhat_64 0 rfl ?_
  refine GG.aload_n C dX6_readWhat_65 0 rfl ?_
  obtain ⟨v17, hv17, hf⟩ := obd_some hf
  refine GG.c_X6_164 C rfl (gX6_isKey hv17) ⟨Nat.le_of_ble_eq_true rfl, Nat.le_of_ble_eq_true rfl⟩ ⟨Nat.le_of_ble_eq_true rfl, Nat.le_of_ble_eq_true rfl⟩ (Nat.le_of_ble_eq_true rfl) dX6_readWhat_66 ?_
  obtain ⟨p18, hp18, hf⟩ := obd_some hf
  refine GG.c_X6_252 C rfl (gX6_must hp18) ⟨Nat.le_of_ble_eq_true rfl, Nat.le_of_ble_eq_true rfl⟩ ⟨Nat.le_of_ble_eq_true rfl, Nat.le_of_ble_eq_true rfl⟩ (Nat.le_of_ble_eq_true rfl) dX6_readWhat_69 ?_
  refine GG.aload_n C dX6_readWhat_72 0 rfl ?_
  refine GG.gm20 C rfl dX6_readWhat_73 ?_
  refine GG.sipush C dX6_readWhat_76 sp_1458 ?_
  refine GG.iload_n C dX6_readWhat_79 2 rfl ?_
  refine GG.iadd C dX6_readWhat_80 ?_
  refine GG.aload_n C dX6_readWhat_81 0 rfl ?_
  refine GG.iconst C dX6_readWhat_82 ic_0 ?_
  refine GG.sipush C dX6_readWhat_83 sp_9999 ?_
  obtain ⟨p19, hp19, hf⟩ := obd_some hf
  refine GG.c_X6_272 C rfl (gX6_count hp19) ⟨Nat.le_of_ble_eq_true rfl, Nat.le_of_ble_eq_true rfl⟩ ⟨Nat.le_of_ble_eq_true rfl, Nat.le_of_ble_eq_true rfl⟩ (Nat.le_of_ble_eq_true rfl) dX6_readWhat_86 ?_
  obtain ⟨S20, hS20, hf⟩ := obd_some hf
  refine GG.mis C rfl hS20 dX6_readWhat_89 ?_
  refine GG.iload_n C dX6_readWhat_90 1 rfl ?_
  refine GG.if_eq C (tgt := 99) dX6_readWhat_91 (by decide) (fun c21 => ?_) (fun c21 => ?_)
  · have hf := if_t hf c21
    refine GG.sub [0, 2, 3] rfl ?_
    exact gX6_readWhat_99 C E  _ _ _ hf
  · have hf := if_f hf c21
    refine GG.iload_n C dX6_readWhat_94 1 rfl ?_
    refine GG.iconst C dX6_readWhat_95 ic_2 ?_
    refine GG.icmp_ne C (tgt := 125) dX6_readWhat_96 (by decide) (fun c22 => ?_) (fun c22 => ?_)
    · have hf := if_f hf c22
      refine GG.iload_n C dX6_readWhat_125 3 rfl ?_
      have hf := Option.some.inj hf
      subst hf
      exact GG.iret C E dX6_readWhat_126
    · have hf := if_t hf c22
      refine GG.sub [0, 2, 3] rfl ?_
      exact gX6_readWhat_99 C E  _ _ _ hf
theorem gX6_readWhat_55 {K : gK} {X : gX} {M : XS} (C : gC K X cX6_readWhat 4 yX6_readWhat (some Jvm.ClassFile.FieldType.int) rX6_readWhat)  {o : (Int32 × MS)} (E : gE K X (some (.int o.1)) M (some o.2) rX6_readWhat.cells rX6_readWhat.slots)   :
    ∀ (S : MS) (a1 : Int32) (a2 : Int32) (a3 : Int32), fX6_readWhat_55  S a1 a2 a3 = some o → GG K X 4 0 0 M (some S) 55 [(0, .ref (kh K)), (1, .int a1), (2, .int a2), (3, .int a3)] [] := by
  intro S a1 a2 a3 hf
  unfold fX6_readWhat_55 at hf
  refine GG.iload_n C dX6_readWhat_55 1 rfl ?_
  refine GG.if_eq C (tgt := 64) dX6_readWhat_56 (by decide) (fun c9 => ?_) (fun c9 => ?_)
  · have hf := if_t hf c9
    refine GG.sub [0, 1, 2, 3] rfl ?_
    exact gX6_readWhat_64 C E  _ _ _ _ hf
  · have hf := if_f hf c9
    refine GG.iload_n C dX6_readWhat_59 1 rfl ?_
    refine GG.iconst C dX6_readWhat_60 ic_3 ?_
    refine GG.icmp_ne C (tgt := 90) dX6_readWhat_61 (by decide) (fun c10 => ?_) (fun c10 => ?_)
    · have hf := if_f hf c10
      refine GG.iload_n C dX6_readWhat_90 1 rfl ?_
      refine GG.if_eq C (tgt := 99) dX6_readWhat_91 (by decide) (fun c11 => ?_) (fun c11 => ?_)
      · have hf := if_t hf c11
        refine GG.sub [0, 2, 3] rfl ?_
        exact gX6_readWhat_99 C E  _ _ _ hf
      · have hf := if_f hf c11
        refine GG.iload_n C dX6_readWhat_94 1 rfl ?_
        refine GG.iconst C dX6_readWhat_95 ic_2 ?_
        refine GG.icmp_ne C (tgt := 125) dX6_readWhat_96 (by decide) (fun c12 => ?_) (fun c12 => ?_)
        · have hf := if_f hf c12
          refine GG.iload_n C dX6_readWhat_125 3 rfl ?_
          have hf := Option.some.inj hf
          subst hf
          exact GG.iret C E dX6_readWhat_126
        · have hf := if_t hf c12
          refine GG.sub [0, 2, 3] rfl ?_
          exact gX6_readWhat_99 C E  _ _ _ hf
    · have hf := if_t hf c10
      refine GG.sub [0, 1, 2, 3] rfl ?_
      exact gX6_readWhat_64 C E  _ _ _ _ hf
theorem gX6_readWhat {K : gK} {M : XS}  {S : MS} {a1 : Int32} {a2 : Int32} {o : (Int32 × MS)} (hf : fX6_readWhat S a1 a2 = some o) : gMet K yX6_readWhat cX6_readWhat 4 (some Jvm.ClassFile.FieldType.int) rX6_readWhat [(.ref (kh K)), (.int a1), (.int a2)] M (some S) (some (.int o.1)) M (some o.2) := by
  refine gMet.of pn_X6 (Nat.le_of_ble_eq_true rfl) fun X C E => ?_
  unfold fX6_readWhat at hf
  show GG K X 4 0 0 M (some S) 0 [(0, .ref (kh K)), (1, .int a1), (2, .int a2)] []
  refine GG.iload_n C dX6_readWhat_0 1 rfl ?_
  refine GG.iconst C dX6_readWhat_1 ic_4 ?_
  refine GG.icmp_ne C (tgt := 11) dX6_readWhat_2 (by decide) (fun c1 => ?_) (fun c1 => ?_)
  · have hf := if_f hf c1
    refine GG.iconst C dX6_readWhat_11 ic_0 ?_
    refine GG.istore_n C (lv' := [(3, .int (nI 0)), (0, .ref (kh K)), (1, .int a1), (2, .int a2)]) dX6_readWhat_12 (by decide) rfl ?_
    refine GG.iload_n C dX6_readWhat_13 2 rfl ?_
    refine GG.if_eq C (tgt := 55) dX6_readWhat_14 (by decide) (fun c2 => ?_) (fun c2 => ?_)
    · have hf := if_t hf c2
      refine GG.sub [1, 2, 3, 0] rfl ?_
      exact gX6_readWhat_55 C E  _ _ _ _ hf
    · have hf := if_f hf c2
      refine GG.aload_n C dX6_readWhat_17 1 rfl ?_
      refine GG.gm20 C rfl dX6_readWhat_18 ?_
      refine GG.sipush C dX6_readWhat_21 sp_1490 ?_
      refine GG.iload_n C dX6_readWhat_24 3 rfl ?_
      refine GG.iadd C dX6_readWhat_25 ?_
      refine GG.aload_n C dX6_readWhat_26 1 rfl ?_
      obtain ⟨p3, hp3, hf⟩ := obd_some hf
      refine GG.c_X6_269 C rfl (gX6_readOf hp3) ⟨Nat.le_of_ble_eq_true rfl, Nat.le_of_ble_eq_true rfl⟩ ⟨Nat.le_of_ble_eq_true rfl, Nat.le_of_ble_eq_true rfl⟩ (Nat.le_of_ble_eq_true rfl) dX6_readWhat_27 ?_
      obtain ⟨S4, hS4, hf⟩ := obd_some hf
      refine GG.mis C rfl hS4 dX6_readWhat_30 ?_
      refine GG.aload_n C dX6_readWhat_31 1 rfl ?_
      refine GG.gm12 C rfl dX6_readWhat_32 ?_
      refine GG.if_ne C (tgt := 53) dX6_readWhat_35 (by decide) (fun c5 => ?_) (fun c5 => ?_)
      · have hf := if_f hf c5
        refine GG.iconst C dX6_readWhat_53 ic_0 ?_
        refine GG.istore_n C (lv' := [(3, .int (nI 0)), (0, .ref (kh K)), (1, .int a1), (2, .int a2)]) dX6_readWhat_54 (by decide) rfl ?_
        refine GG.sub [1, 2, 3, 0] rfl ?_
        exact gX6_readWhat_55 C E  _ _ _ _ hf
      · have hf := if_t hf c5
        refine GG.iconst C dX6_readWhat_38 ic_1 ?_
        refine GG.aload_n C dX6_readWhat_39 1 rfl ?_
        refine GG.gm20 C rfl dX6_readWhat_40 ?_
        refine GG.sipush C dX6_readWhat_43 sp_1490 ?_
        refine GG.iload_n C dX6_readWhat_46 3 rfl ?_
        refine GG.iadd C dX6_readWhat_47 ?_
        obtain ⟨v6, hv6, hf⟩ := obd_some hf
        refine GG.mi C rfl hv6 dX6_readWhat_48 ?_
        refine GG.ishl C dX6_readWhat_49 ?_
        refine GG.goto C (tgt := 54) dX6_readWhat_50 (by decide) ?_
        refine GG.topi fun x7 hx7 => ?_
        have hf := ltb_s hx7 hf
        refine GG.istore_n C (lv' := [(3, .int x7), (0, .ref (kh K)), (1, .int a1), (2, .int a2)]) dX6_readWhat_54 (by decide) rfl ?_
        refine GG.sub [1, 2, 3, 0] rfl ?_
        exact gX6_readWhat_55 C E  _ _ _ _ hf
  · have hf := if_t hf c1
    refine GG.aload_n C dX6_readWhat_5 0 rfl ?_
    refine GG.iload_n C dX6_readWhat_6 2 rfl ?_
    obtain ⟨p8, hp8, hf⟩ := obd_some hf
    refine GG.c_X6_266 C rfl (gX6_readSettle hp8) ⟨Nat.le_of_ble_eq_true rfl, Nat.le_of_ble_eq_true rfl⟩ ⟨Nat.le_of_ble_eq_true rfl, Nat.le_of_ble_eq_true rfl⟩ (Nat.le_of_ble_eq_true rfl) dX6_readWhat_7 ?_
    have hf := Option.some.inj hf
    subst hf
    exact GG.iret C E dX6_readWhat_10
theorem gX6_readAfter_85 {K : gK} {X : gX} {M : XS} (C : gC K X cX6_readAfter 4 yX6_readAfter (some Jvm.ClassFile.FieldType.int) rX6_readAfter)  {o : (Int32 × MS)} (E : gE K X (some (.int o.1)) M (some o.2) rX6_readAfter.cells rX6_readAfter.slots) {k24 : MS → Int32 → Int32 → Option (Int32 × MS)} (hk24 : ∀ (S : MS) (a1 : Int32) (a2 : Int32), k24 S a1 a2 = some o → GG K X 4 0 0 M (some S) 24 [(0, .ref (kh K)), (1, .int a1), (2, .int a2)] []) :
    ∀ (S : MS) (s0 : Int32) (s1 : Int32), fX6_readAfter_85 k24 S s0 s1 = some o → GG K X 4 0 0 M (some S) 85 [(0, .ref (kh K))] [.int s0, .int s1] := by
  intro S s0 s1 hf
  unfold fX6_readAfter_85 at hf
  refine GG.ior C dX6_readAfter_85 ?_
  refine GG.topi fun x13 hx13 => ?_
  have hf := ltb_s hx13 hf
  refine GG.istore_n C (lv' := [(1, .int x13), (0, .ref (kh K))]) dX6_readAfter_86 (by decide) rfl ?_
  refine GG.aload_n C dX6_readAfter_87 1 rfl ?_
  refine GG.gm14 C rfl dX6_readAfter_88 ?_
  refine GG.iconst C dX6_readAfter_91 ic_1 ?_
  refine GG.icmp_ne C (tgt := 99) dX6_readAfter_92 (by decide) (fun c14 => ?_) (fun c14 => ?_)
  · have hf := if_f hf c14
    refine GG.iconst C dX6_readAfter_99 ic_0 ?_
    refine GG.istore_n C (lv' := [(2, .int (nI 0)), (1, .int x13), (0, .ref (kh K))]) dX6_readAfter_100 (by decide) rfl ?_
    refine GG.goto C (tgt := 24) dX6_readAfter_101 (by decide) ?_
    refine GG.sub [2, 1, 0] rfl ?_
    exact hk24 _ _ _ hf
  · have hf := if_t hf c14
    refine GG.iconst C dX6_readAfter_95 ic_1 ?_
    refine GG.goto C (tgt := 100) dX6_readAfter_96 (by decide) ?_
    refine GG.istore_n C (lv' := [(2, .int (nI 1)), (1, .int x13), (0, .ref (kh K))]) dX6_readAfter_100 (by decide) rfl ?_
    refine GG.goto C (tgt := 24) dX6_readAfter_101 (by decide) ?_
    refine GG.sub [2, 1, 0] rfl ?_
    exact hk24 _ _ _ hf
theorem gX6_readAfter_65 {K : gK} {X : gX} {M : XS} (C : gC K X cX6_readAfter 4 yX6_readAfter (some Jvm.ClassFile.FieldType.int) rX6_readAfter)  {o : (Int32 × MS)} (E : gE K X (some (.int o.1)) M (some o.2) rX6_readAfter.cells rX6_readAfter.slots) {k24 : MS → Int32 → Int32 → Option (Int32 × MS)} (hk24 : ∀ (S : MS) (a1 : Int32) (a2 : Int32), k24 S a1 a2 = some o → GG K X 4 0 0 M (some S) 24 [(0, .ref (kh K)), (1, .int a1), (2, .int a2)] []) :
    ∀ (S : MS) (a1 : Int32) (a3 : Int32), fX6_readAfter_65 k24 S a1 a3 = some o → GG K X 4 0 0 M (some S) 65 [(0, .ref (kh K)), (1, .int a1), (3, .int a3)] [] := by
  intro S a1 a3 hf
  unfold fX6_readAfter_65 at hf
  refine GG.aload_n C dX6_readAfter_65 0 rfl ?_
  refine GG.iconst C dX6_readAfter_66 ic_1 ?_
  obtain ⟨p11, hp11, hf⟩ := obd_some hf
  refine GG.c_X6_252 C rfl (gX6_must hp11) ⟨Nat.le_of_ble_eq_true rfl, Nat.le_of_ble_eq_true rfl⟩ ⟨Nat.le_of_ble_eq_true rfl, Nat.le_of_ble_eq_true rfl⟩ (Nat.le_of_ble_eq_true rfl) dX6_readAfter_67 ?_
  refine GG.iload_n C dX6_readAfter_70 1 rfl ?_
  refine GG.aload_n C dX6_readAfter_71 0 rfl ?_
  refine GG.gm12 C rfl dX6_readAfter_72 ?_
  refine GG.if_ne C (tgt := 84) dX6_readAfter_75 (by decide) (fun c12 => ?_) (fun c12 => ?_)
  · have hf := if_f hf c12
    refine GG.iconst C dX6_readAfter_84 ic_0 ?_
    refine GG.sub [0] rfl ?_
    exact gX6_readAfter_85 C E (hk24 := hk24) _ _ _ hf
  · have hf := if_t hf c12
    refine GG.iconst C dX6_readAfter_78 ic_1 ?_
    refine GG.iload_n C dX6_readAfter_79 2 rfl ?_
    refine GG.ishl C dX6_readAfter_80 ?_
    refine GG.goto C (tgt := 85) dX6_readAfter_81 (by decide) ?_
    refine GG.sub [0] rfl ?_
    exact gX6_readAfter_85 C E (hk24 := hk24) _ _ _ hf
theorem gX6_readAfter_24 {K : gK} {X : gX} {M : XS} (C : gC K X cX6_readAfter 4 yX6_readAfter (some Jvm.ClassFile.FieldType.int) rX6_readAfter)  {o : (Int32 × MS)} (E : gE K X (some (.int o.1)) M (some o.2) rX6_readAfter.cells rX6_readAfter.slots)   :
    ∀ (n : Nat) (S : MS) (a1 : Int32) (a2 : Int32), fX6_readAfter_24  n S a1 a2 = some o → GG K X 4 0 0 M (some S) 24 [(0, .ref (kh K)), (1, .int a1), (2, .int a2)] [] := by
  intro n
  induction n with
  | zero => intro S a1 a2 hf; cases hf
  | succ n ih =>
    intro S a1 a2 hf
    rw [fX6_readAfter_24] at hf
    refine GG.iload_n C dX6_readAfter_24 2 rfl ?_
    refine GG.if_eq C (tgt := 104) dX6_readAfter_25 (by decide) (fun c5 => ?_) (fun c5 => ?_)
    · have hf := if_t hf c5
      refine GG.iload_n C dX6_readAfter_104 1 rfl ?_
      have hf := Option.some.inj hf
      subst hf
      exact GG.iret C E dX6_readAfter_105
    · have hf := if_f hf c5
      refine GG.aload_n C dX6_readAfter_28 0 rfl ?_
      refine GG.gm12 C rfl dX6_readAfter_29 ?_
      refine GG.if_ne C (tgt := 104) dX6_readAfter_32 (by decide) (fun c6 => ?_) (fun c6 => ?_)
      · have hf := if_f hf c6
        refine GG.iload_n C dX6_readAfter_104 1 rfl ?_
        have hf := Option.some.inj hf
        subst hf
        exact GG.iret C E dX6_readAfter_105
      · have hf := if_t hf c6
        refine GG.aload_n C dX6_readAfter_35 0 rfl ?_
        obtain ⟨p7, hp7, hf⟩ := obd_some hf
        refine GG.c_X6_256 C rfl (gX6_readTold hp7) ⟨Nat.le_of_ble_eq_true rfl, Nat.le_of_ble_eq_true rfl⟩ ⟨Nat.le_of_ble_eq_true rfl, Nat.le_of_ble_eq_true rfl⟩ (Nat.le_of_ble_eq_true rfl) dX6_readAfter_36 ?_
        refine GG.istore_n C (lv' := [(3, .int p7.1), (0, .ref (kh K)), (1, .int a1), (2, .int a2)]) dX6_readAfter_39 (by decide) rfl ?_
        refine GG.aload_n C dX6_readAfter_40 1 rfl ?_
        refine GG.gm12 C rfl dX6_readAfter_41 ?_
        refine GG.if_ne C (tgt := 65) dX6_readAfter_44 (by decide) (fun c8 => ?_) (fun c8 => ?_)
        · have hf := if_f hf c8
          refine GG.sub [1, 2, 0] rfl ?_
          exact gX6_readAfter_65 C E (hk24 := ih) _ _ _ hf
        · have hf := if_t hf c8
          refine GG.iload_n C dX6_readAfter_47 2 rfl ?_
          refine GG.iload_n C dX6_readAfter_48 0 rfl ?_
          refine GG.ishr C dX6_readAfter_49 ?_
          refine GG.iconst C dX6_readAfter_50 ic_1 ?_
          refine GG.iand C dX6_readAfter_51 ?_
          refine GG.iconst C dX6_readAfter_52 ic_1 ?_
          refine GG.icmp_ne C (tgt := 65) dX6_readAfter_53 (by decide) (fun c9 => ?_) (fun c9 => ?_)
          · have hf := if_f hf c9
            refine GG.sub [1, 2, 0] rfl ?_
            exact gX6_readAfter_65 C E (hk24 := ih) _ _ _ hf
          · have hf := if_t hf c9
            refine GG.aload_n C dX6_readAfter_56 1 rfl ?_
            refine GG.iconst C dX6_readAfter_57 ic_5 ?_
            refine GG.aload_n C dX6_readAfter_58 1 rfl ?_
            refine GG.gm15 C rfl dX6_readAfter_59 ?_
            obtain ⟨p10, hp10, hf⟩ := obd_some hf
            refine GG.c_X6_215 C rfl (gX6_fail hp10) ⟨Nat.le_of_ble_eq_true rfl, Nat.le_of_ble_eq_true rfl⟩ ⟨Nat.le_of_ble_eq_true rfl, Nat.le_of_ble_eq_true rfl⟩ (Nat.le_of_ble_eq_true rfl) dX6_readAfter_62 ?_
            refine GG.sub [1, 2, 0] rfl ?_
            exact gX6_readAfter_65 C E (hk24 := ih) _ _ _ hf
theorem gX6_readAfter {K : gK} {M : XS}  {S : MS} {o : (Int32 × MS)} (hf : fX6_readAfter S = some o) : gMet K yX6_readAfter cX6_readAfter 4 (some Jvm.ClassFile.FieldType.int) rX6_readAfter [(.ref (kh K))] M (some S) (some (.int o.1)) M (some o.2) := by
  refine gMet.of pn_X6 (Nat.le_of_ble_eq_true rfl) fun X C E => ?_
  unfold fX6_readAfter at hf
  show GG K X 4 0 0 M (some S) 0 [(0, .ref (kh K))] []
  refine GG.aload_n C dX6_readAfter_0 0 rfl ?_
  refine GG.gm12 C rfl dX6_readAfter_1 ?_
  refine GG.if_gt C (tgt := 14) dX6_readAfter_4 (by decide) (fun c1 => ?_) (fun c1 => ?_)
  · have hf := if_t hf c1
    refine GG.iconst C dX6_readAfter_14 ic_0 ?_
    have hf := Option.some.inj hf
    subst hf
    exact GG.iret C E dX6_readAfter_15
  · have hf := if_f hf c1
    refine GG.aload_n C dX6_readAfter_7 0 rfl ?_
    obtain ⟨v2, hv2, hf⟩ := obd_some hf
    refine GG.c_X6_176 C rfl (gX6_isAfter hv2) ⟨Nat.le_of_ble_eq_true rfl, Nat.le_of_ble_eq_true rfl⟩ ⟨Nat.le_of_ble_eq_true rfl, Nat.le_of_ble_eq_true rfl⟩ (Nat.le_of_ble_eq_true rfl) dX6_readAfter_8 ?_
    refine GG.if_ne C (tgt := 16) dX6_readAfter_11 (by decide) (fun c3 => ?_) (fun c3 => ?_)
    · have hf := if_f hf c3
      refine GG.aload_n C dX6_readAfter_16 0 rfl ?_
      obtain ⟨p4, hp4, hf⟩ := obd_some hf
      refine GG.c_X6_219 C rfl (gX6_next hp4) ⟨Nat.le_of_ble_eq_true rfl, Nat.le_of_ble_eq_true rfl⟩ ⟨Nat.le_of_ble_eq_true rfl, Nat.le_of_ble_eq_true rfl⟩ (Nat.le_of_ble_eq_true rfl) dX6_readAfter_17 ?_
      refine GG.iconst C dX6_readAfter_20 ic_0 ?_
      refine GG.istore_n C (lv' := [(1, .int (nI 0)), (0, .ref (kh K))]) dX6_readAfter_21 (by decide) rfl ?_
      refine GG.iconst C dX6_readAfter_22 ic_1 ?_
      refine GG.istore_n C (lv' := [(2, .int (nI 1)), (1, .int (nI 0)), (0, .ref (kh K))]) dX6_readAfter_23 (by decide) rfl ?_
      refine GG.sub [2, 1, 0] rfl ?_
      exact gX6_readAfter_24 C E  FU _ _ _ hf
    · have hf := if_t hf c3
      refine GG.iconst C dX6_readAfter_14 ic_0 ?_
      have hf := Option.some.inj hf
      subst hf
      exact GG.iret C E dX6_readAfter_15
theorem gX6_readChange_102 {K : gK} {X : gX} {M : XS} (C : gC K X cX6_readChange 6 yX6_readChange none rX6_readChange)  {o : MS} (E : gE K X none M (some o) rX6_readChange.cells rX6_readChange.slots)   :
    ∀ (n : Nat) (S : MS) (a1 : Int32) (a3 : Int32) (a4 : Int32) (a5 : Int32), fX6_readChange_102  n S a1 a3 a4 a5 = some o → GG K X 6 0 0 M (some S) 102 [(0, .ref (kh K)), (1, .int a1), (3, .int a3), (4, .int a4), (5, .int a5)] [] := by
  intro n
  induction n with
  | zero => intro S a1 a3 a4 a5 hf; cases hf
  | succ n ih =>
    intro S a1 a3 a4 a5 hf
    rw [fX6_readChange_102] at hf
    refine GG.iload C dX6_readChange_102 4 rfl ?_
    refine GG.iload_n C dX6_readChange_104 1 rfl ?_
    refine GG.icmp_ge C (tgt := 142) dX6_readChange_105 (by decide) (fun c14 => ?_) (fun c14 => ?_)
    · have hf := if_t hf c14
      refine GG.aload_n C dX6_readChange_142 0 rfl ?_
      refine GG.gm20 C rfl dX6_readChange_143 ?_
      refine GG.sipush C dX6_readChange_146 sp_1538 ?_
      refine GG.iload_n C dX6_readChange_149 1 rfl ?_
      refine GG.iadd C dX6_readChange_150 ?_
      refine GG.iload C dX6_readChange_151 3 rfl ?_
      obtain ⟨S15, hS15, hf⟩ := obd_some hf
      refine GG.mis C rfl hS15 dX6_readChange_153 ?_
      refine GG.aload_n C dX6_readChange_154 0 rfl ?_
      refine GG.gm20 C rfl dX6_readChange_155 ?_
      refine GG.sipush C dX6_readChange_158 sp_1440 ?_
      refine GG.dup2 C dX6_readChange_161 rfl rfl ?_
      obtain ⟨v16, hv16, hf⟩ := obd_some hf
      refine GG.mi C rfl hv16 dX6_readChange_162 ?_
      refine GG.iconst C dX6_readChange_163 ic_1 ?_
      refine GG.iadd C dX6_readChange_164 ?_
      obtain ⟨S17, hS17, hf⟩ := obd_some hf
      refine GG.mis C rfl hS17 dX6_readChange_165 ?_
      have hf := Option.some.inj hf
      subst hf
      exact GG.vret C E dX6_readChange_166
    · have hf := if_f hf c14
      refine GG.iload C dX6_readChange_108 3 rfl ?_
      refine GG.iload_n C dX6_readChange_110 2 rfl ?_
      refine GG.iload C dX6_readChange_111 4 rfl ?_
      refine GG.ishr C dX6_readChange_113 ?_
      refine GG.iconst C dX6_readChange_114 ic_1 ?_
      refine GG.iand C dX6_readChange_115 ?_
      refine GG.iconst C dX6_readChange_116 ic_1 ?_
      refine GG.icmp_ne C (tgt := 132) dX6_readChange_117 (by decide) (fun c18 => ?_) (fun c18 => ?_)
      · have hf := if_f hf c18
        refine GG.iconst C dX6_readChange_132 ic_0 ?_
        refine GG.ior C dX6_readChange_133 ?_
        refine GG.topi fun x19 hx19 => ?_
        have hf := ltb_s hx19 hf
        refine GG.istore C (lv' := [(4, .int x19), (0, .ref (kh K)), (1, .int a1), (3, .int a3), (5, .int a5)]) dX6_readChange_134 (by decide) rfl ?_
        refine GG.iinc C (v := (a5 + (nI 1))) (lv' := [(5, .int (a5 + (nI 1))), (4, .int x19), (0, .ref (kh K)), (1, .int a1), (3, .int a3)]) dX6_readChange_136 4 rfl (congrArg (a5 + ·) ic_1) (by decide) rfl ?_
        refine GG.goto C (tgt := 102) dX6_readChange_139 (by decide) ?_
        refine GG.sub [2, 3, 4, 1, 0] rfl ?_
        exact ih _ _ _ _ _ hf
      · have hf := if_t hf c18
        refine GG.aload_n C dX6_readChange_120 0 rfl ?_
        refine GG.sipush C dX6_readChange_121 sp_1440 ?_
        refine GG.iload C dX6_readChange_124 4 rfl ?_
        obtain ⟨v20, hv20, hf⟩ := obd_some hf
        refine GG.c_X6_249 C rfl (gX6_hangsOn hv20) ⟨Nat.le_of_ble_eq_true rfl, Nat.le_of_ble_eq_true rfl⟩ ⟨Nat.le_of_ble_eq_true rfl, Nat.le_of_ble_eq_true rfl⟩ (Nat.le_of_ble_eq_true rfl) dX6_readChange_126 ?_
        refine GG.goto C (tgt := 133) dX6_readChange_129 (by decide) ?_
        refine GG.ior C dX6_readChange_133 ?_
        refine GG.topi fun x21 hx21 => ?_
        have hf := ltb_s hx21 hf
        refine GG.istore C (lv' := [(4, .int x21), (0, .ref (kh K)), (1, .int a1), (3, .int a3), (5, .int a5)]) dX6_readChange_134 (by decide) rfl ?_
        refine GG.iinc C (v := (a5 + (nI 1))) (lv' := [(5, .int (a5 + (nI 1))), (4, .int x21), (0, .ref (kh K)), (1, .int a1), (3, .int a3)]) dX6_readChange_136 4 rfl (congrArg (a5 + ·) ic_1) (by decide) rfl ?_
        refine GG.goto C (tgt := 102) dX6_readChange_139 (by decide) ?_
        refine GG.sub [2, 3, 4, 1, 0] rfl ?_
        exact ih _ _ _ _ _ hf
theorem gX6_readChange_25 {K : gK} {X : gX} {M : XS} (C : gC K X cX6_readChange 6 yX6_readChange none rX6_readChange)  {o : MS} (E : gE K X none M (some o) rX6_readChange.cells rX6_readChange.slots)   :
    ∀ (S : MS) (a1 : Int32), fX6_readChange_25  S a1 = some o → GG K X 6 0 0 M (some S) 25 [(0, .ref (kh K)), (1, .int a1)] [] := by
  intro S a1 hf
  unfold fX6_readChange_25 at hf
  refine GG.aload_n C dX6_readChange_25 0 rfl ?_
  refine GG.gm12 C rfl dX6_readChange_26 ?_
  refine GG.if_le C (tgt := 33) dX6_readChange_29 (by decide) (fun c4 => ?_) (fun c4 => ?_)
  · have hf := if_t hf c4
    refine GG.aload_n C dX6_readChange_33 0 rfl ?_
    obtain ⟨v5, hv5, hf⟩ := obd_some hf
    refine GG.c_X6_160 C rfl (gX6_kindWord hv5) ⟨Nat.le_of_ble_eq_true rfl, Nat.le_of_ble_eq_true rfl⟩ ⟨Nat.le_of_ble_eq_true rfl, Nat.le_of_ble_eq_true rfl⟩ (Nat.le_of_ble_eq_true rfl) dX6_readChange_34 ?_
    refine GG.istore_n C (lv' := [(2, .int v5), (0, .ref (kh K)), (1, .int a1)]) dX6_readChange_37 (by decide) rfl ?_
    refine GG.aload_n C dX6_readChange_38 1 rfl ?_
    refine GG.iconst C dX6_readChange_39 ic_0 ?_
    refine GG.iload_n C dX6_readChange_40 2 rfl ?_
    obtain ⟨p6, hp6, hf⟩ := obd_some hf
    refine GG.c_X6_275 C rfl (gX6_readNew hp6) ⟨Nat.le_of_ble_eq_true rfl, Nat.le_of_ble_eq_true rfl⟩ ⟨Nat.le_of_ble_eq_true rfl, Nat.le_of_ble_eq_true rfl⟩ (Nat.le_of_ble_eq_true rfl) dX6_readChange_41 ?_
    refine GG.aload_n C dX6_readChange_44 1 rfl ?_
    refine GG.gm12 C rfl dX6_readChange_45 ?_
    refine GG.if_le C (tgt := 52) dX6_readChange_48 (by decide) (fun c7 => ?_) (fun c7 => ?_)
    · have hf := if_t hf c7
      refine GG.aload_n C dX6_readChange_52 1 rfl ?_
      refine GG.gm20 C rfl dX6_readChange_53 ?_
      refine GG.sipush C dX6_readChange_56 sp_1442 ?_
      refine GG.iload_n C dX6_readChange_59 2 rfl ?_
      refine GG.iadd C dX6_readChange_60 ?_
      refine GG.iload_n C dX6_readChange_61 0 rfl ?_
      obtain ⟨S8, hS8, hf⟩ := obd_some hf
      refine GG.mis C rfl hS8 dX6_readChange_62 ?_
      refine GG.aload_n C dX6_readChange_63 1 rfl ?_
      refine GG.iload_n C dX6_readChange_64 0 rfl ?_
      refine GG.iload_n C dX6_readChange_65 2 rfl ?_
      obtain ⟨p9, hp9, hf⟩ := obd_some hf
      refine GG.c_X6_278 C rfl (gX6_readWhat hp9) ⟨Nat.le_of_ble_eq_true rfl, Nat.le_of_ble_eq_true rfl⟩ ⟨Nat.le_of_ble_eq_true rfl, Nat.le_of_ble_eq_true rfl⟩ (Nat.le_of_ble_eq_true rfl) dX6_readChange_66 ?_
      refine GG.istore_n C (lv' := [(3, .int p9.1), (2, .int v5), (0, .ref (kh K)), (1, .int a1)]) dX6_readChange_69 (by decide) rfl ?_
      refine GG.iload_n C dX6_readChange_70 0 rfl ?_
      refine GG.aload_n C dX6_readChange_71 2 rfl ?_
      obtain ⟨p10, hp10, hf⟩ := obd_some hf
      refine GG.c_X6_281 C rfl (gX6_readAfter hp10) ⟨Nat.le_of_ble_eq_true rfl, Nat.le_of_ble_eq_true rfl⟩ ⟨Nat.le_of_ble_eq_true rfl, Nat.le_of_ble_eq_true rfl⟩ (Nat.le_of_ble_eq_true rfl) dX6_readChange_72 ?_
      refine GG.ior C dX6_readChange_75 ?_
      refine GG.topi fun x11 hx11 => ?_
      have hf := ltb_s hx11 hf
      refine GG.istore_n C (lv' := [(3, .int x11), (2, .int v5), (0, .ref (kh K)), (1, .int a1)]) dX6_readChange_76 (by decide) rfl ?_
      refine GG.aload_n C dX6_readChange_77 2 rfl ?_
      refine GG.gm12 C rfl dX6_readChange_78 ?_
      refine GG.if_le C (tgt := 85) dX6_readChange_81 (by decide) (fun c12 => ?_) (fun c12 => ?_)
      · have hf := if_t hf c12
        refine GG.aload_n C dX6_readChange_85 2 rfl ?_
        refine GG.gm20 C rfl dX6_readChange_86 ?_
        refine GG.sipush C dX6_readChange_89 sp_1522 ?_
        refine GG.iload_n C dX6_readChange_92 3 rfl ?_
        refine GG.iadd C dX6_readChange_93 ?_
        refine GG.iload_n C dX6_readChange_94 0 rfl ?_
        obtain ⟨S13, hS13, hf⟩ := obd_some hf
        refine GG.mis C rfl hS13 dX6_readChange_95 ?_
        refine GG.iload_n C dX6_readChange_96 0 rfl ?_
        refine GG.istore C (lv' := [(4, .int x11), (3, .int x11), (2, .int v5), (0, .ref (kh K)), (1, .int a1)]) dX6_readChange_97 (by decide) rfl ?_
        refine GG.iconst C dX6_readChange_99 ic_0 ?_
        refine GG.istore C (lv' := [(5, .int (nI 0)), (4, .int x11), (3, .int x11), (2, .int v5), (0, .ref (kh K)), (1, .int a1)]) dX6_readChange_100 (by decide) rfl ?_
        refine GG.sub [4, 5, 2, 1, 0] rfl ?_
        exact gX6_readChange_102 C E  FU _ _ _ _ _ hf
      · have hf := if_f hf c12
        have hf := Option.some.inj hf
        subst hf
        exact GG.vret C E dX6_readChange_84
    · have hf := if_f hf c7
      have hf := Option.some.inj hf
      subst hf
      exact GG.vret C E dX6_readChange_51
  · have hf := if_f hf c4
    have hf := Option.some.inj hf
    subst hf
    exact GG.vret C E dX6_readChange_32
theorem gX6_readChange {K : gK} {M : XS}  {S : MS} {o : MS} (hf : fX6_readChange S = some o) : gMet K yX6_readChange cX6_readChange 6 none rX6_readChange [(.ref (kh K))] M (some S) none M (some o) := by
  refine gMet.of pn_X6 (Nat.le_of_ble_eq_true rfl) fun X C E => ?_
  unfold fX6_readChange at hf
  show GG K X 6 0 0 M (some S) 0 [(0, .ref (kh K))] []
  refine GG.aload_n C dX6_readChange_0 0 rfl ?_
  refine GG.gm20 C rfl dX6_readChange_1 ?_
  refine GG.sipush C dX6_readChange_4 sp_1440 ?_
  obtain ⟨v1, hv1, hf⟩ := obd_some hf
  refine GG.mi C rfl hv1 dX6_readChange_7 ?_
  refine GG.istore_n C (lv' := [(1, .int v1), (0, .ref (kh K))]) dX6_readChange_8 (by decide) rfl ?_
  refine GG.iload_n C dX6_readChange_9 0 rfl ?_
  refine GG.bipush C dX6_readChange_10 bp_16 ?_
  refine GG.icmp_ne C (tgt := 25) dX6_readChange_12 (by decide) (fun c2 => ?_) (fun c2 => ?_)
  · have hf := if_f hf c2
    refine GG.sub [1, 0] rfl ?_
    exact gX6_readChange_25 C E  _ _ hf
  · have hf := if_t hf c2
    refine GG.aload_n C dX6_readChange_15 1 rfl ?_
    refine GG.bipush C dX6_readChange_16 bp_6 ?_
    refine GG.aload_n C dX6_readChange_18 1 rfl ?_
    refine GG.gm15 C rfl dX6_readChange_19 ?_
    obtain ⟨p3, hp3, hf⟩ := obd_some hf
    refine GG.c_X6_215 C rfl (gX6_fail hp3) ⟨Nat.le_of_ble_eq_true rfl, Nat.le_of_ble_eq_true rfl⟩ ⟨Nat.le_of_ble_eq_true rfl, Nat.le_of_ble_eq_true rfl⟩ (Nat.le_of_ble_eq_true rfl) dX6_readChange_22 ?_
    refine GG.sub [1, 0] rfl ?_
    exact gX6_readChange_25 C E  _ _ hf
theorem gX6_isClose {K : gK} {M : XS}  {S : MS} {o : Int32} (hf : fX6_isClose S = some o) : gMet K yX6_isClose cX6_isClose 1 (some Jvm.ClassFile.FieldType.boolean) rX6_isClose [(.ref (kh K))] M (some S) (some (.int o)) M (some S) := by
  refine gMet.of pn_X6 (Nat.le_of_ble_eq_true rfl) fun X C E => ?_
  unfold fX6_isClose at hf
  show GG K X 1 0 0 M (some S) 0 [(0, .ref (kh K))] []
  refine GG.aload_n C dX6_isClose_0 0 rfl ?_
  refine GG.gm14 C rfl dX6_isClose_1 ?_
  refine GG.iconst C dX6_isClose_4 ic_3 ?_
  refine GG.icmp_ne C (tgt := 12) dX6_isClose_5 (by decide) (fun c1 => ?_) (fun c1 => ?_)
  · have hf := if_f hf c1
    refine GG.iconst C dX6_isClose_12 ic_0 ?_
    have hf := Option.some.inj hf
    subst hf
    exact GG.zret C zb_0 E dX6_isClose_13
  · have hf := if_t hf c1
    refine GG.iconst C dX6_isClose_8 ic_1 ?_
    refine GG.goto C (tgt := 13) dX6_isClose_9 (by decide) ?_
    have hf := Option.some.inj hf
    subst hf
    exact GG.zret C zb_1 E dX6_isClose_13
theorem gX6_isWell_24 {K : gK} {X : gX} {M : XS} (C : gC K X cX6_isWell 1 yX6_isWell (some Jvm.ClassFile.FieldType.boolean) rX6_isWell)  {o : (Int32 × MS)} (E : gE K X (some (.int o.1)) M (some o.2) rX6_isWell.cells rX6_isWell.slots)   :
    ∀ (S : MS) (s0 : Int32), fX6_isWell_24  S s0 = some o → GG K X 1 0 0 M (some S) 24 [(0, .ref (kh K))] [.int s0, .ref (kh K)] := by
  intro S s0 hf
  unfold fX6_isWell_24 at hf
  refine GG.pm11 C rfl dX6_isWell_24 ?_
  refine GG.topS fun S3 hS3 => ?_
  have hf := ltb_s hS3 hf
  refine GG.aload_n C dX6_isWell_27 0 rfl ?_
  refine GG.gm12 C rfl dX6_isWell_28 ?_
  refine GG.if_eq C (tgt := 43) dX6_isWell_31 (by decide) (fun c4 => ?_) (fun c4 => ?_)
  · have hf := if_t hf c4
    refine GG.iconst C dX6_isWell_43 ic_1 ?_
    refine GG.goto C (tgt := 48) dX6_isWell_44 (by decide) ?_
    have hf := Option.some.inj hf
    subst hf
    exact GG.zret C zb_1 E dX6_isWell_48
  · have hf := if_f hf c4
    refine GG.aload_n C dX6_isWell_34 0 rfl ?_
    refine GG.bipush C dX6_isWell_35 bp_10 ?_
    obtain ⟨p5, hp5, hf⟩ := obd_some hf
    refine GG.c_X6_90 C rfl (gX6_no hp5) ⟨Nat.le_of_ble_eq_true rfl, Nat.le_of_ble_eq_true rfl⟩ ⟨Nat.le_of_ble_eq_true rfl, Nat.le_of_ble_eq_true rfl⟩ (Nat.le_of_ble_eq_true rfl) dX6_isWell_37 ?_
    refine GG.if_eq C (tgt := 47) dX6_isWell_40 (by decide) (fun c6 => ?_) (fun c6 => ?_)
    · have hf := if_t hf c6
      refine GG.iconst C dX6_isWell_47 ic_0 ?_
      have hf := Option.some.inj hf
      subst hf
      exact GG.zret C zb_0 E dX6_isWell_48
    · have hf := if_f hf c6
      refine GG.iconst C dX6_isWell_43 ic_1 ?_
      refine GG.goto C (tgt := 48) dX6_isWell_44 (by decide) ?_
      have hf := Option.some.inj hf
      subst hf
      exact GG.zret C zb_1 E dX6_isWell_48
theorem gX6_isWell {K : gK} {M : XS}  {S : MS} {o : (Int32 × MS)} (hf : fX6_isWell S = some o) : gMet K yX6_isWell cX6_isWell 1 (some Jvm.ClassFile.FieldType.boolean) rX6_isWell [(.ref (kh K))] M (some S) (some (.int o.1)) M (some o.2) := by
  refine gMet.of pn_X6 (Nat.le_of_ble_eq_true rfl) fun X C E => ?_
  unfold fX6_isWell at hf
  show GG K X 1 0 0 M (some S) 0 [(0, .ref (kh K))] []
  refine GG.aload_n C dX6_isWell_0 0 rfl ?_
  refine GG.aload_n C dX6_isWell_1 0 rfl ?_
  refine GG.gm12 C rfl dX6_isWell_2 ?_
  refine GG.pm10 C rfl dX6_isWell_5 ?_
  refine GG.topS fun S1 hS1 => ?_
  have hf := ltb_s hS1 hf
  refine GG.aload_n C dX6_isWell_8 0 rfl ?_
  refine GG.aload_n C dX6_isWell_9 0 rfl ?_
  refine GG.gm12 C rfl dX6_isWell_10 ?_
  refine GG.if_ne C (tgt := 20) dX6_isWell_13 (by decide) (fun c2 => ?_) (fun c2 => ?_)
  · have hf := if_f hf c2
    refine GG.aload_n C dX6_isWell_20 0 rfl ?_
    refine GG.gm13 C rfl dX6_isWell_21 ?_
    refine GG.sub [0] rfl ?_
    exact gX6_isWell_24 C E  _ _ hf
  · have hf := if_t hf c2
    refine GG.iconst C dX6_isWell_16 ic_m1 ?_
    refine GG.goto C (tgt := 24) dX6_isWell_17 (by decide) ?_
    refine GG.sub [0] rfl ?_
    exact gX6_isWell_24 C E  _ _ hf
theorem gX6_book_148 {K : gK} {X : gX} {M : XS} (C : gC K X cX6_book 3 yX6_book (some Jvm.ClassFile.FieldType.int) rX6_book)  {o : (Int32 × MS)} (E : gE K X (some (.int o.1)) M (some o.2) rX6_book.cells rX6_book.slots)   :
    ∀ (n : Nat) (S : MS) (a2 : Int32), fX6_book_148  n S a2 = some o → GG K X 3 0 0 M (some S) 148 [(0, .ref (kh K)), (2, .int a2)] [] := by
  intro n
  induction n with
  | zero => intro S a2 hf; cases hf
  | succ n ih =>
    intro S a2 hf
    rw [fX6_book_148] at hf
    refine GG.iload_n C dX6_book_148 1 rfl ?_
    refine GG.bipush C dX6_book_149 bp_20 ?_
    refine GG.icmp_ge C (tgt := 175) dX6_book_151 (by decide) (fun c29 => ?_) (fun c29 => ?_)
    · have hf := if_t hf c29
      refine GG.aload_n C dX6_book_175 0 rfl ?_
      refine GG.gm20 C rfl dX6_book_176 ?_
      refine GG.iconst C dX6_book_179 ic_0 ?_
      obtain ⟨v30, hv30, hf⟩ := obd_some hf
      refine GG.mi C rfl hv30 dX6_book_180 ?_
      have hf := Option.some.inj hf
      subst hf
      exact GG.iret C E dX6_book_181
    · have hf := if_f hf c29
      refine GG.aload_n C dX6_book_154 0 rfl ?_
      refine GG.gm21 C rfl dX6_book_155 ?_
      refine GG.iload_n C dX6_book_158 1 rfl ?_
      refine GG.aload_n C dX6_book_159 0 rfl ?_
      refine GG.gm21 C rfl dX6_book_160 ?_
      refine GG.bipush C dX6_book_163 bp_80 ?_
      refine GG.iload_n C dX6_book_165 1 rfl ?_
      refine GG.iadd C dX6_book_166 ?_
      obtain ⟨v31, hv31, hf⟩ := obd_some hf
      refine GG.ml C hv31 dX6_book_167 ?_
      obtain ⟨S32, hS32, hf⟩ := obd_some hf
      refine GG.mls C hS32 dX6_book_168 ?_
      refine GG.iinc C (v := (a2 + (nI 1))) (lv' := [(2, .int (a2 + (nI 1))), (0, .ref (kh K))]) dX6_book_169 1 rfl (congrArg (a2 + ·) ic_1) (by decide) rfl ?_
      refine GG.goto C (tgt := 148) dX6_book_172 (by decide) ?_
      refine GG.sub [1, 0] rfl ?_
      exact ih _ _ hf
theorem gX6_book_117 {K : gK} {X : gX} {M : XS} (C : gC K X cX6_book 3 yX6_book (some Jvm.ClassFile.FieldType.int) rX6_book)  {o : (Int32 × MS)} (E : gE K X (some (.int o.1)) M (some o.2) rX6_book.cells rX6_book.slots)   :
    ∀ (n : Nat) (S : MS) (a2 : Int32), fX6_book_117  n S a2 = some o → GG K X 3 0 0 M (some S) 117 [(0, .ref (kh K)), (2, .int a2)] [] := by
  intro n
  induction n with
  | zero => intro S a2 hf; cases hf
  | succ n ih =>
    intro S a2 hf
    rw [fX6_book_117] at hf
    refine GG.iload_n C dX6_book_117 1 rfl ?_
    refine GG.sipush C dX6_book_118 sp_360 ?_
    refine GG.icmp_ge C (tgt := 146) dX6_book_121 (by decide) (fun c26 => ?_) (fun c26 => ?_)
    · have hf := if_t hf c26
      refine GG.iconst C dX6_book_146 ic_0 ?_
      refine GG.istore_n C (lv' := [(2, .int (nI 0)), (0, .ref (kh K))]) dX6_book_147 (by decide) rfl ?_
      refine GG.sub [1, 0] rfl ?_
      exact gX6_book_148 C E  FU _ _ hf
    · have hf := if_f hf c26
      refine GG.aload_n C dX6_book_124 0 rfl ?_
      refine GG.gm20 C rfl dX6_book_125 ?_
      refine GG.iload_n C dX6_book_128 1 rfl ?_
      refine GG.aload_n C dX6_book_129 0 rfl ?_
      refine GG.gm20 C rfl dX6_book_130 ?_
      refine GG.sipush C dX6_book_133 sp_1440 ?_
      refine GG.iload_n C dX6_book_136 1 rfl ?_
      refine GG.iadd C dX6_book_137 ?_
      obtain ⟨v27, hv27, hf⟩ := obd_some hf
      refine GG.mi C rfl hv27 dX6_book_138 ?_
      obtain ⟨S28, hS28, hf⟩ := obd_some hf
      refine GG.mis C rfl hS28 dX6_book_139 ?_
      refine GG.iinc C (v := (a2 + (nI 1))) (lv' := [(2, .int (a2 + (nI 1))), (0, .ref (kh K))]) dX6_book_140 1 rfl (congrArg (a2 + ·) ic_1) (by decide) rfl ?_
      refine GG.goto C (tgt := 117) dX6_book_143 (by decide) ?_
      refine GG.sub [1, 0] rfl ?_
      exact ih _ _ hf
theorem gX6_book_49 {K : gK} {X : gX} {M : XS} (C : gC K X cX6_book 3 yX6_book (some Jvm.ClassFile.FieldType.int) rX6_book)  {o : (Int32 × MS)} (E : gE K X (some (.int o.1)) M (some o.2) rX6_book.cells rX6_book.slots)   :
    ∀ (n : Nat) (S : MS), fX6_book_49  n S = some o → GG K X 3 0 0 M (some S) 49 [(0, .ref (kh K))] [] := by
  intro n
  induction n with
  | zero => intro S hf; cases hf
  | succ n ih =>
    intro S hf
    rw [fX6_book_49] at hf
    refine GG.aload_n C dX6_book_49 0 rfl ?_
    refine GG.gm12 C rfl dX6_book_50 ?_
    refine GG.if_ne C (tgt := 106) dX6_book_53 (by decide) (fun c7 => ?_) (fun c7 => ?_)
    · have hf := if_f hf c7
      refine GG.aload_n C dX6_book_106 0 rfl ?_
      obtain ⟨p8, hp8, hf⟩ := obd_some hf
      refine GG.c_X6_296 C rfl (gX6_isWell hp8) ⟨Nat.le_of_ble_eq_true rfl, Nat.le_of_ble_eq_true rfl⟩ ⟨Nat.le_of_ble_eq_true rfl, Nat.le_of_ble_eq_true rfl⟩ (Nat.le_of_ble_eq_true rfl) dX6_book_107 ?_
      refine GG.if_ne C (tgt := 115) dX6_book_110 (by decide) (fun c9 => ?_) (fun c9 => ?_)
      · have hf := if_f hf c9
        refine GG.iconst C dX6_book_115 ic_0 ?_
        refine GG.istore_n C (lv' := [(2, .int (nI 0)), (0, .ref (kh K))]) dX6_book_116 (by decide) rfl ?_
        refine GG.sub [1, 0] rfl ?_
        exact gX6_book_117 C E  FU _ _ hf
      · have hf := if_t hf c9
        refine GG.iconst C dX6_book_113 ic_m1 ?_
        have hf := Option.some.inj hf
        subst hf
        exact GG.iret C E dX6_book_114
    · have hf := if_t hf c7
      refine GG.aload_n C dX6_book_56 0 rfl ?_
      refine GG.gm14 C rfl dX6_book_57 ?_
      refine GG.if_eq C (tgt := 106) dX6_book_60 (by decide) (fun c10 => ?_) (fun c10 => ?_)
      · have hf := if_t hf c10
        refine GG.aload_n C dX6_book_106 0 rfl ?_
        obtain ⟨p11, hp11, hf⟩ := obd_some hf
        refine GG.c_X6_296 C rfl (gX6_isWell hp11) ⟨Nat.le_of_ble_eq_true rfl, Nat.le_of_ble_eq_true rfl⟩ ⟨Nat.le_of_ble_eq_true rfl, Nat.le_of_ble_eq_true rfl⟩ (Nat.le_of_ble_eq_true rfl) dX6_book_107 ?_
        refine GG.if_ne C (tgt := 115) dX6_book_110 (by decide) (fun c12 => ?_) (fun c12 => ?_)
        · have hf := if_f hf c12
          refine GG.iconst C dX6_book_115 ic_0 ?_
          refine GG.istore_n C (lv' := [(2, .int (nI 0)), (0, .ref (kh K))]) dX6_book_116 (by decide) rfl ?_
          refine GG.sub [1, 0] rfl ?_
          exact gX6_book_117 C E  FU _ _ hf
        · have hf := if_t hf c12
          refine GG.iconst C dX6_book_113 ic_m1 ?_
          have hf := Option.some.inj hf
          subst hf
          exact GG.iret C E dX6_book_114
      · have hf := if_f hf c10
        refine GG.aload_n C dX6_book_63 0 rfl ?_
        obtain ⟨v13, hv13, hf⟩ := obd_some hf
        refine GG.c_X6_156 C rfl (gX6_isIslandWord hv13) ⟨Nat.le_of_ble_eq_true rfl, Nat.le_of_ble_eq_true rfl⟩ ⟨Nat.le_of_ble_eq_true rfl, Nat.le_of_ble_eq_true rfl⟩ (Nat.le_of_ble_eq_true rfl) dX6_book_64 ?_
        refine GG.if_eq C (tgt := 77) dX6_book_67 (by decide) (fun c14 => ?_) (fun c14 => ?_)
        · have hf := if_t hf c14
          refine GG.aload_n C dX6_book_77 0 rfl ?_
          obtain ⟨v15, hv15, hf⟩ := obd_some hf
          refine GG.c_X6_160 C rfl (gX6_kindWord hv15) ⟨Nat.le_of_ble_eq_true rfl, Nat.le_of_ble_eq_true rfl⟩ ⟨Nat.le_of_ble_eq_true rfl, Nat.le_of_ble_eq_true rfl⟩ (Nat.le_of_ble_eq_true rfl) dX6_book_78 ?_
          refine GG.if_lt C (tgt := 91) dX6_book_81 (by decide) (fun c16 => ?_) (fun c16 => ?_)
          · have hf := if_t hf c16
            refine GG.aload_n C dX6_book_91 0 rfl ?_
            obtain ⟨p17, hp17, hf⟩ := obd_some hf
            refine GG.c_X6_222 C rfl (gX6_wrong hp17) ⟨Nat.le_of_ble_eq_true rfl, Nat.le_of_ble_eq_true rfl⟩ ⟨Nat.le_of_ble_eq_true rfl, Nat.le_of_ble_eq_true rfl⟩ (Nat.le_of_ble_eq_true rfl) dX6_book_92 ?_
            refine GG.aload_n C dX6_book_95 0 rfl ?_
            refine GG.aload_n C dX6_book_96 0 rfl ?_
            obtain ⟨v18, hv18, hf⟩ := obd_some hf
            refine GG.c_X6_293 C rfl (gX6_isClose hv18) ⟨Nat.le_of_ble_eq_true rfl, Nat.le_of_ble_eq_true rfl⟩ ⟨Nat.le_of_ble_eq_true rfl, Nat.le_of_ble_eq_true rfl⟩ (Nat.le_of_ble_eq_true rfl) dX6_book_97 ?_
            obtain ⟨p19, hp19, hf⟩ := obd_some hf
            refine GG.c_X6_252 C rfl (gX6_must hp19) ⟨Nat.le_of_ble_eq_true rfl, Nat.le_of_ble_eq_true rfl⟩ ⟨Nat.le_of_ble_eq_true rfl, Nat.le_of_ble_eq_true rfl⟩ (Nat.le_of_ble_eq_true rfl) dX6_book_100 ?_
            refine GG.goto C (tgt := 49) dX6_book_103 (by decide) ?_
            refine GG.sub [0] rfl ?_
            exact ih _ hf
          · have hf := if_f hf c16
            refine GG.aload_n C dX6_book_84 0 rfl ?_
            obtain ⟨p20, hp20, hf⟩ := obd_some hf
            refine GG.c_X6_290 C rfl (gX6_readChange hp20) ⟨Nat.le_of_ble_eq_true rfl, Nat.le_of_ble_eq_true rfl⟩ ⟨Nat.le_of_ble_eq_true rfl, Nat.le_of_ble_eq_true rfl⟩ (Nat.le_of_ble_eq_true rfl) dX6_book_85 ?_
            refine GG.goto C (tgt := 95) dX6_book_88 (by decide) ?_
            refine GG.aload_n C dX6_book_95 0 rfl ?_
            refine GG.aload_n C dX6_book_96 0 rfl ?_
            obtain ⟨v21, hv21, hf⟩ := obd_some hf
            refine GG.c_X6_293 C rfl (gX6_isClose hv21) ⟨Nat.le_of_ble_eq_true rfl, Nat.le_of_ble_eq_true rfl⟩ ⟨Nat.le_of_ble_eq_true rfl, Nat.le_of_ble_eq_true rfl⟩ (Nat.le_of_ble_eq_true rfl) dX6_book_97 ?_
            obtain ⟨p22, hp22, hf⟩ := obd_some hf
            refine GG.c_X6_252 C rfl (gX6_must hp22) ⟨Nat.le_of_ble_eq_true rfl, Nat.le_of_ble_eq_true rfl⟩ ⟨Nat.le_of_ble_eq_true rfl, Nat.le_of_ble_eq_true rfl⟩ (Nat.le_of_ble_eq_true rfl) dX6_book_100 ?_
            refine GG.goto C (tgt := 49) dX6_book_103 (by decide) ?_
            refine GG.sub [0] rfl ?_
            exact ih _ hf
        · have hf := if_f hf c14
          refine GG.aload_n C dX6_book_70 0 rfl ?_
          obtain ⟨p23, hp23, hf⟩ := obd_some hf
          refine GG.c_X6_287 C rfl (gX6_readIsland hp23) ⟨Nat.le_of_ble_eq_true rfl, Nat.le_of_ble_eq_true rfl⟩ ⟨Nat.le_of_ble_eq_true rfl, Nat.le_of_ble_eq_true rfl⟩ (Nat.le_of_ble_eq_true rfl) dX6_book_71 ?_
          refine GG.goto C (tgt := 95) dX6_book_74 (by decide) ?_
          refine GG.aload_n C dX6_book_95 0 rfl ?_
          refine GG.aload_n C dX6_book_96 0 rfl ?_
          obtain ⟨v24, hv24, hf⟩ := obd_some hf
          refine GG.c_X6_293 C rfl (gX6_isClose hv24) ⟨Nat.le_of_ble_eq_true rfl, Nat.le_of_ble_eq_true rfl⟩ ⟨Nat.le_of_ble_eq_true rfl, Nat.le_of_ble_eq_true rfl⟩ (Nat.le_of_ble_eq_true rfl) dX6_book_97 ?_
          obtain ⟨p25, hp25, hf⟩ := obd_some hf
          refine GG.c_X6_252 C rfl (gX6_must hp25) ⟨Nat.le_of_ble_eq_true rfl, Nat.le_of_ble_eq_true rfl⟩ ⟨Nat.le_of_ble_eq_true rfl, Nat.le_of_ble_eq_true rfl⟩ (Nat.le_of_ble_eq_true rfl) dX6_book_100 ?_
          refine GG.goto C (tgt := 49) dX6_book_103 (by decide) ?_
          refine GG.sub [0] rfl ?_
          exact ih _ hf
theorem gX6_book_25 {K : gK} {X : gX} {M : XS} (C : gC K X cX6_book 3 yX6_book (some Jvm.ClassFile.FieldType.int) rX6_book)  {o : (Int32 × MS)} (E : gE K X (some (.int o.1)) M (some o.2) rX6_book.cells rX6_book.slots)   :
    ∀ (n : Nat) (S : MS) (a2 : Int32), fX6_book_25  n S a2 = some o → GG K X 3 0 0 M (some S) 25 [(0, .ref (kh K)), (2, .int a2)] [] := by
  intro n
  induction n with
  | zero => intro S a2 hf; cases hf
  | succ n ih =>
    intro S a2 hf
    rw [fX6_book_25] at hf
    refine GG.iload_n C dX6_book_25 1 rfl ?_
    refine GG.sipush C dX6_book_26 sp_360 ?_
    refine GG.icmp_ge C (tgt := 49) dX6_book_29 (by decide) (fun c5 => ?_) (fun c5 => ?_)
    · have hf := if_t hf c5
      refine GG.sub [0] rfl ?_
      exact gX6_book_49 C E  FU _ hf
    · have hf := if_f hf c5
      refine GG.aload_n C dX6_book_32 0 rfl ?_
      refine GG.gm20 C rfl dX6_book_33 ?_
      refine GG.sipush C dX6_book_36 sp_1440 ?_
      refine GG.iload_n C dX6_book_39 1 rfl ?_
      refine GG.iadd C dX6_book_40 ?_
      refine GG.iconst C dX6_book_41 ic_0 ?_
      obtain ⟨S6, hS6, hf⟩ := obd_some hf
      refine GG.mis C rfl hS6 dX6_book_42 ?_
      refine GG.iinc C (v := (a2 + (nI 1))) (lv' := [(2, .int (a2 + (nI 1))), (0, .ref (kh K))]) dX6_book_43 1 rfl (congrArg (a2 + ·) ic_1) (by decide) rfl ?_
      refine GG.goto C (tgt := 25) dX6_book_46 (by decide) ?_
      refine GG.sub [1, 0] rfl ?_
      exact ih _ _ hf
theorem gX6_book {K : gK} {M : XS}  {S : MS} {a1 : Int32} {o : (Int32 × MS)} (hf : fX6_book S a1 = some o) : gMet K yX6_book cX6_book 3 (some Jvm.ClassFile.FieldType.int) rX6_book [(.ref (kh K)), (.int a1)] M (some S) (some (.int o.1)) M (some o.2) := by
  refine gMet.of pn_X6 (Nat.le_of_ble_eq_true rfl) fun X C E => ?_
  unfold fX6_book at hf
  show GG K X 3 0 0 M (some S) 0 [(0, .ref (kh K)), (1, .int a1)] []
  refine GG.aload_n C dX6_book_0 0 rfl ?_
  refine GG.iconst C dX6_book_1 ic_0 ?_
  refine GG.pm1 C rfl dX6_book_2 ?_
  refine GG.topS fun S1 hS1 => ?_
  have hf := ltb_s hS1 hf
  refine GG.aload_n C dX6_book_5 0 rfl ?_
  refine GG.iconst C dX6_book_6 ic_0 ?_
  refine GG.pm0 C rfl dX6_book_7 ?_
  refine GG.topS fun S2 hS2 => ?_
  have hf := ltb_s hS2 hf
  refine GG.aload_n C dX6_book_10 0 rfl ?_
  refine GG.iload_n C dX6_book_11 1 rfl ?_
  refine GG.sipush C dX6_book_12 sp_900 ?_
  obtain ⟨p3, hp3, hf⟩ := obd_some hf
  refine GG.c_X6_284 C rfl (gX6_opens hp3) ⟨Nat.le_of_ble_eq_true rfl, Nat.le_of_ble_eq_true rfl⟩ ⟨Nat.le_of_ble_eq_true rfl, Nat.le_of_ble_eq_true rfl⟩ (Nat.le_of_ble_eq_true rfl) dX6_book_15 ?_
  refine GG.if_ne C (tgt := 23) dX6_book_18 (by decide) (fun c4 => ?_) (fun c4 => ?_)
  · have hf := if_f hf c4
    refine GG.iconst C dX6_book_23 ic_0 ?_
    refine GG.istore_n C (lv' := [(2, .int (nI 0)), (0, .ref (kh K)), (1, .int a1)]) dX6_book_24 (by decide) rfl ?_
    refine GG.sub [1, 0] rfl ?_
    exact gX6_book_25 C E  FU _ _ hf
  · have hf := if_t hf c4
    refine GG.iconst C dX6_book_21 ic_m1 ?_
    have hf := Option.some.inj hf
    subst hf
    exact GG.iret C E dX6_book_22
theorem gX6_refuse {K : gK} {M : XS}  {S : MS} {a1 : Int32} {o : (Int32 × MS)} (hf : fX6_refuse S a1 = some o) : gMet K yX6_refuse cX6_refuse 2 (some Jvm.ClassFile.FieldType.int) rX6_refuse [(.ref (kh K)), (.int a1)] M (some S) (some (.int o.1)) M (some o.2) := by
  refine gMet.of pn_X6 (Nat.le_of_ble_eq_true rfl) fun X C E => ?_
  unfold fX6_refuse at hf
  show GG K X 2 0 0 M (some S) 0 [(0, .ref (kh K)), (1, .int a1)] []
  refine GG.aload_n C dX6_refuse_0 0 rfl ?_
  refine GG.iload_n C dX6_refuse_1 1 rfl ?_
  refine GG.pm0 C rfl dX6_refuse_2 ?_
  refine GG.topS fun S1 hS1 => ?_
  have hf := ltb_s hS1 hf
  refine GG.iconst C dX6_refuse_5 ic_m1 ?_
  have hf := Option.some.inj hf
  subst hf
  exact GG.iret C E dX6_refuse_6
theorem gX6_many_79 {K : gK} {X : gX} {M : XS} (C : gC K X cX6_many 5 yX6_many (some Jvm.ClassFile.FieldType.int) rX6_many)  {o : (Int32 × MS)} (E : gE K X (some (.int o.1)) M (some o.2) rX6_many.cells rX6_many.slots) {k44 : MS → Int32 → Int32 → Int32 → Option (Int32 × MS)} (hk44 : ∀ (S : MS) (a1 : Int32) (a2 : Int32) (a3 : Int32), k44 S a1 a2 a3 = some o → GG K X 5 0 0 M (some S) 44 [(0, .ref (kh K)), (1, .int a1), (2, .int a2), (3, .int a3)] []) :
    ∀ (n : Nat) (S : MS) (a1 : Int32) (a2 : Int32) (a3 : Int32) (a4 : Int32), fX6_many_79 k44 n S a1 a2 a3 a4 = some o → GG K X 5 0 0 M (some S) 79 [(0, .ref (kh K)), (1, .int a1), (2, .int a2), (3, .int a3), (4, .int a4)] [] := by
  intro n
  induction n with
  | zero => intro S a1 a2 a3 a4 hf; cases hf
  | succ n ih =>
    intro S a1 a2 a3 a4 hf
    rw [fX6_many_79] at hf
    refine GG.iload C dX6_many_79 4 rfl ?_
    refine GG.iload_n C dX6_many_81 3 rfl ?_
    refine GG.icmp_ge C (tgt := 115) dX6_many_82 (by decide) (fun c16 => ?_) (fun c16 => ?_)
    · have hf := if_t hf c16
      refine GG.iinc C (v := (a3 + (nI 1))) (lv' := [(3, .int (a3 + (nI 1))), (0, .ref (kh K)), (1, .int a1), (2, .int a2), (4, .int a4)]) dX6_many_115 3 rfl (congrArg (a3 + ·) ic_1) (by decide) rfl ?_
      refine GG.goto C (tgt := 44) dX6_many_118 (by decide) ?_
      refine GG.sub [1, 2, 3, 0] rfl ?_
      exact hk44 _ _ _ _ hf
    · have hf := if_f hf c16
      refine GG.iload_n C dX6_many_85 2 rfl ?_
      refine GG.iload_n C dX6_many_86 1 rfl ?_
      refine GG.iconst C dX6_many_87 ic_3 ?_
      refine GG.icmp_ne C (tgt := 106) dX6_many_88 (by decide) (fun c17 => ?_) (fun c17 => ?_)
      · have hf := if_f hf c17
        refine GG.iconst C dX6_many_106 ic_0 ?_
        refine GG.iadd C dX6_many_107 ?_
        refine GG.topi fun x18 hx18 => ?_
        have hf := ltb_s hx18 hf
        refine GG.istore_n C (lv' := [(2, .int x18), (0, .ref (kh K)), (1, .int a1), (3, .int a3), (4, .int a4)]) dX6_many_108 (by decide) rfl ?_
        refine GG.iinc C (v := (a4 + (nI 1))) (lv' := [(4, .int (a4 + (nI 1))), (2, .int x18), (0, .ref (kh K)), (1, .int a1), (3, .int a3)]) dX6_many_109 4 rfl (congrArg (a4 + ·) ic_1) (by decide) rfl ?_
        refine GG.goto C (tgt := 79) dX6_many_112 (by decide) ?_
        refine GG.sub [2, 3, 1, 4, 0] rfl ?_
        exact ih _ _ _ _ _ hf
      · have hf := if_t hf c17
        refine GG.aload_n C dX6_many_91 0 rfl ?_
        refine GG.iconst C dX6_many_92 ic_0 ?_
        refine GG.iload_n C dX6_many_93 3 rfl ?_
        refine GG.iload C dX6_many_94 4 rfl ?_
        obtain ⟨v19, hv19, hf⟩ := obd_some hf
        refine GG.c_X6_262 C rfl (gX6_wouldQuarrel hv19) ⟨Nat.le_of_ble_eq_true rfl, Nat.le_of_ble_eq_true rfl⟩ ⟨Nat.le_of_ble_eq_true rfl, Nat.le_of_ble_eq_true rfl⟩ (Nat.le_of_ble_eq_true rfl) dX6_many_96 ?_
        refine GG.if_eq C (tgt := 106) dX6_many_99 (by decide) (fun c20 => ?_) (fun c20 => ?_)
        · have hf := if_t hf c20
          refine GG.iconst C dX6_many_106 ic_0 ?_
          refine GG.iadd C dX6_many_107 ?_
          refine GG.topi fun x21 hx21 => ?_
          have hf := ltb_s hx21 hf
          refine GG.istore_n C (lv' := [(2, .int x21), (0, .ref (kh K)), (1, .int a1), (3, .int a3), (4, .int a4)]) dX6_many_108 (by decide) rfl ?_
          refine GG.iinc C (v := (a4 + (nI 1))) (lv' := [(4, .int (a4 + (nI 1))), (2, .int x21), (0, .ref (kh K)), (1, .int a1), (3, .int a3)]) dX6_many_109 4 rfl (congrArg (a4 + ·) ic_1) (by decide) rfl ?_
          refine GG.goto C (tgt := 79) dX6_many_112 (by decide) ?_
          refine GG.sub [2, 3, 1, 4, 0] rfl ?_
          exact ih _ _ _ _ _ hf
        · have hf := if_f hf c20
          refine GG.iconst C dX6_many_102 ic_1 ?_
          refine GG.goto C (tgt := 107) dX6_many_103 (by decide) ?_
          refine GG.iadd C dX6_many_107 ?_
          refine GG.topi fun x22 hx22 => ?_
          have hf := ltb_s hx22 hf
          refine GG.istore_n C (lv' := [(2, .int x22), (0, .ref (kh K)), (1, .int a1), (3, .int a3), (4, .int a4)]) dX6_many_108 (by decide) rfl ?_
          refine GG.iinc C (v := (a4 + (nI 1))) (lv' := [(4, .int (a4 + (nI 1))), (2, .int x22), (0, .ref (kh K)), (1, .int a1), (3, .int a3)]) dX6_many_109 4 rfl (congrArg (a4 + ·) ic_1) (by decide) rfl ?_
          refine GG.goto C (tgt := 79) dX6_many_112 (by decide) ?_
          refine GG.sub [2, 3, 1, 4, 0] rfl ?_
          exact ih _ _ _ _ _ hf
theorem gX6_many_44 {K : gK} {X : gX} {M : XS} (C : gC K X cX6_many 5 yX6_many (some Jvm.ClassFile.FieldType.int) rX6_many)  {o : (Int32 × MS)} (E : gE K X (some (.int o.1)) M (some o.2) rX6_many.cells rX6_many.slots)   :
    ∀ (n : Nat) (S : MS) (a1 : Int32) (a2 : Int32) (a3 : Int32), fX6_many_44  n S a1 a2 a3 = some o → GG K X 5 0 0 M (some S) 44 [(0, .ref (kh K)), (1, .int a1), (2, .int a2), (3, .int a3)] [] := by
  intro n
  induction n with
  | zero => intro S a1 a2 a3 hf; cases hf
  | succ n ih =>
    intro S a1 a2 a3 hf
    rw [fX6_many_44] at hf
    refine GG.iload_n C dX6_many_44 3 rfl ?_
    refine GG.aload_n C dX6_many_45 0 rfl ?_
    refine GG.gm20 C rfl dX6_many_46 ?_
    refine GG.iconst C dX6_many_49 ic_0 ?_
    obtain ⟨v8, hv8, hf⟩ := obd_some hf
    refine GG.mi C rfl hv8 dX6_many_50 ?_
    refine GG.icmp_ge C (tgt := 121) dX6_many_51 (by decide) (fun c9 => ?_) (fun c9 => ?_)
    · have hf := if_t hf c9
      refine GG.iload_n C dX6_many_121 2 rfl ?_
      have hf := Option.some.inj hf
      subst hf
      exact GG.iret C E dX6_many_122
    · have hf := if_f hf c9
      refine GG.iload_n C dX6_many_54 2 rfl ?_
      refine GG.iload_n C dX6_many_55 1 rfl ?_
      refine GG.iconst C dX6_many_56 ic_2 ?_
      refine GG.icmp_ne C (tgt := 73) dX6_many_57 (by decide) (fun c10 => ?_) (fun c10 => ?_)
      · have hf := if_f hf c10
        refine GG.iconst C dX6_many_73 ic_0 ?_
        refine GG.iadd C dX6_many_74 ?_
        refine GG.topi fun x11 hx11 => ?_
        have hf := ltb_s hx11 hf
        refine GG.istore_n C (lv' := [(2, .int x11), (0, .ref (kh K)), (1, .int a1), (3, .int a3)]) dX6_many_75 (by decide) rfl ?_
        refine GG.iconst C dX6_many_76 ic_0 ?_
        refine GG.istore C (lv' := [(4, .int (nI 0)), (2, .int x11), (0, .ref (kh K)), (1, .int a1), (3, .int a3)]) dX6_many_77 (by decide) rfl ?_
        refine GG.sub [2, 3, 1, 4, 0] rfl ?_
        exact gX6_many_79 C E (hk44 := ih) FU _ _ _ _ _ hf
      · have hf := if_t hf c10
        refine GG.aload_n C dX6_many_60 0 rfl ?_
        refine GG.iconst C dX6_many_61 ic_0 ?_
        refine GG.iload_n C dX6_many_62 3 rfl ?_
        obtain ⟨v12, hv12, hf⟩ := obd_some hf
        refine GG.c_X6_239 C rfl (gX6_kind hv12) ⟨Nat.le_of_ble_eq_true rfl, Nat.le_of_ble_eq_true rfl⟩ ⟨Nat.le_of_ble_eq_true rfl, Nat.le_of_ble_eq_true rfl⟩ (Nat.le_of_ble_eq_true rfl) dX6_many_63 ?_
        refine GG.if_ne C (tgt := 73) dX6_many_66 (by decide) (fun c13 => ?_) (fun c13 => ?_)
        · have hf := if_f hf c13
          refine GG.iconst C dX6_many_73 ic_0 ?_
          refine GG.iadd C dX6_many_74 ?_
          refine GG.topi fun x14 hx14 => ?_
          have hf := ltb_s hx14 hf
          refine GG.istore_n C (lv' := [(2, .int x14), (0, .ref (kh K)), (1, .int a1), (3, .int a3)]) dX6_many_75 (by decide) rfl ?_
          refine GG.iconst C dX6_many_76 ic_0 ?_
          refine GG.istore C (lv' := [(4, .int (nI 0)), (2, .int x14), (0, .ref (kh K)), (1, .int a1), (3, .int a3)]) dX6_many_77 (by decide) rfl ?_
          refine GG.sub [2, 3, 1, 4, 0] rfl ?_
          exact gX6_many_79 C E (hk44 := ih) FU _ _ _ _ _ hf
        · have hf := if_t hf c13
          refine GG.iconst C dX6_many_69 ic_1 ?_
          refine GG.goto C (tgt := 74) dX6_many_70 (by decide) ?_
          refine GG.iadd C dX6_many_74 ?_
          refine GG.topi fun x15 hx15 => ?_
          have hf := ltb_s hx15 hf
          refine GG.istore_n C (lv' := [(2, .int x15), (0, .ref (kh K)), (1, .int a1), (3, .int a3)]) dX6_many_75 (by decide) rfl ?_
          refine GG.iconst C dX6_many_76 ic_0 ?_
          refine GG.istore C (lv' := [(4, .int (nI 0)), (2, .int x15), (0, .ref (kh K)), (1, .int a1), (3, .int a3)]) dX6_many_77 (by decide) rfl ?_
          refine GG.sub [2, 3, 1, 4, 0] rfl ?_
          exact gX6_many_79 C E (hk44 := ih) FU _ _ _ _ _ hf
theorem gX6_many {K : gK} {M : XS}  {S : MS} {a1 : Int32} {o : (Int32 × MS)} (hf : fX6_many S a1 = some o) : gMet K yX6_many cX6_many 5 (some Jvm.ClassFile.FieldType.int) rX6_many [(.ref (kh K)), (.int a1)] M (some S) (some (.int o.1)) M (some o.2) := by
  refine gMet.of pn_X6 (Nat.le_of_ble_eq_true rfl) fun X C E => ?_
  unfold fX6_many at hf
  show GG K X 5 0 0 M (some S) 0 [(0, .ref (kh K)), (1, .int a1)] []
  refine GG.aload_n C dX6_many_0 0 rfl ?_
  refine GG.iconst C dX6_many_1 ic_0 ?_
  refine GG.pm1 C rfl dX6_many_2 ?_
  refine GG.topS fun S1 hS1 => ?_
  have hf := ltb_s hS1 hf
  refine GG.aload_n C dX6_many_5 0 rfl ?_
  refine GG.iconst C dX6_many_6 ic_0 ?_
  refine GG.pm0 C rfl dX6_many_7 ?_
  refine GG.topS fun S2 hS2 => ?_
  have hf := ltb_s hS2 hf
  refine GG.iload_n C dX6_many_10 1 rfl ?_
  refine GG.i2l C dX6_many_11 ?_
  refine GG.lconst C dX6_many_12 lc_0 ?_
  refine GG.ldc2 C (v := (lN 3)) q1848 dX6_many_13 ?_
  obtain ⟨v3, hv3, hf⟩ := obd_some hf
  refine GG.c_X6_110 C rfl (gX6_isIn hv3) ⟨Nat.le_of_ble_eq_true rfl, Nat.le_of_ble_eq_true rfl⟩ ⟨Nat.le_of_ble_eq_true rfl, Nat.le_of_ble_eq_true rfl⟩ (Nat.le_of_ble_eq_true rfl) dX6_many_16 ?_
  refine GG.if_ne C (tgt := 28) dX6_many_19 (by decide) (fun c4 => ?_) (fun c4 => ?_)
  · have hf := if_f hf c4
    refine GG.iload_n C dX6_many_28 1 rfl ?_
    refine GG.iconst C dX6_many_29 ic_2 ?_
    refine GG.icmp_ge C (tgt := 40) dX6_many_30 (by decide) (fun c5 => ?_) (fun c5 => ?_)
    · have hf := if_t hf c5
      refine GG.iconst C dX6_many_40 ic_0 ?_
      refine GG.istore_n C (lv' := [(2, .int (nI 0)), (0, .ref (kh K)), (1, .int a1)]) dX6_many_41 (by decide) rfl ?_
      refine GG.iconst C dX6_many_42 ic_0 ?_
      refine GG.istore_n C (lv' := [(3, .int (nI 0)), (2, .int (nI 0)), (0, .ref (kh K)), (1, .int a1)]) dX6_many_43 (by decide) rfl ?_
      refine GG.sub [2, 3, 1, 0] rfl ?_
      exact gX6_many_44 C E  FU _ _ _ _ hf
    · have hf := if_f hf c5
      refine GG.aload_n C dX6_many_33 0 rfl ?_
      refine GG.gm20 C rfl dX6_many_34 ?_
      refine GG.iload_n C dX6_many_37 1 rfl ?_
      obtain ⟨v6, hv6, hf⟩ := obd_some hf
      refine GG.mi C rfl hv6 dX6_many_38 ?_
      have hf := Option.some.inj hf
      subst hf
      exact GG.iret C E dX6_many_39
  · have hf := if_t hf c4
    refine GG.aload_n C dX6_many_22 0 rfl ?_
    refine GG.iconst C dX6_many_23 ic_5 ?_
    obtain ⟨p7, hp7, hf⟩ := obd_some hf
    refine GG.c_X6_299 C rfl (gX6_refuse hp7) ⟨Nat.le_of_ble_eq_true rfl, Nat.le_of_ble_eq_true rfl⟩ ⟨Nat.le_of_ble_eq_true rfl, Nat.le_of_ble_eq_true rfl⟩ (Nat.le_of_ble_eq_true rfl) dX6_many_24 ?_
    have hf := Option.some.inj hf
    subst hf
    exact GG.iret C E dX6_many_27
