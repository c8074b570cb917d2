set_option maxRecDepth 100000
theorem gX2_another_52 {K : gK} {X : gX} {S : Option MS} (C : gC K X cX2_another 8 yX2_another (some (Jvm.ClassFile.FieldType.object "SwapBook$Change")) rX2_another)  {o : ((Nat × XS) ⊕ (Nat × XS))} (E : gEX K X (oR o) (oRm o) S rX2_another.cells rX2_another.slots)   :
    ∀ (M : XS) (a0 : Nat) (a3 : Int32) (a4 : Option Nat) (s0 : Nat), fX2_another_52  M a0 a3 a4 s0 = some o → GG K X 8 2 18 M S 52 [(0, .ref a0), (3, .int a3), (4, va_rf a4)] [.ref s0] := by
  intro M a0 a3 a4 s0 hf
  unfold fX2_another_52 at hf
  refine GG.astore C (lv' := [(5, .ref s0), (0, .ref a0), (3, .int a3), (4, va_rf a4)]) dX2_another_52 (by decide) (by cases a4 <;> rfl) ?_
  refine GG.aload_n C dX2_another_54 1 rfl ?_
  refine GG.bipush C dX2_another_55 bp_8 ?_
  obtain ⟨c16, hf⟩ := gd_some hf
  obtain ⟨p17, hp17, hf⟩ := obd_some hf
  cases p17 with
  | inl p17 =>
    refine GG.c_X2_108l C rfl (gX2_word hp17) c16 ⟨Nat.le_of_ble_eq_true rfl, Nat.le_of_ble_eq_true rfl⟩ ⟨Nat.le_of_ble_eq_true rfl, Nat.le_of_ble_eq_true rfl⟩ (Nat.le_of_ble_eq_true rfl) dX2_another_57 ?_
    refine GG.aload_n C dX2_another_60 1 rfl ?_
    obtain ⟨c18, hf⟩ := gd_some hf
    obtain ⟨p19, hp19, hf⟩ := obd_some hf
    cases p19 with
    | inl p19 =>
      refine GG.c_X2_127l C rfl (gX2_aChange hp19) c18 ⟨Nat.le_of_ble_eq_true rfl, Nat.le_of_ble_eq_true rfl⟩ ⟨Nat.le_of_ble_eq_true rfl, Nat.le_of_ble_eq_true rfl⟩ (Nat.le_of_ble_eq_true rfl) dX2_another_61 ?_
      refine GG.istore C (lv' := [(6, .int p19.1), (5, .ref s0), (0, .ref a0), (3, .int a3), (4, va_rf a4)]) dX2_another_64 (by decide) rfl ?_
      refine GG.aload_n C dX2_another_66 2 rfl ?_
      obtain ⟨c20, hf⟩ := gd_some hf
      obtain ⟨r21, hr21, hf⟩ := obd_some hf
      refine GG.gx_X2_39 C rfl c20 hr21 dX2_another_67 ?_
      obtain ⟨c22, hf⟩ := gd_some hf
      obtain ⟨r23, hr23, hf⟩ := obd_some hf
      refine GG.gx_X2_130 C rfl c22 hr23 dX2_another_70 ?_
      refine GG.iload C dX2_another_73 0 rfl ?_
      obtain ⟨r24, hr24, hf⟩ := obd_some hf
      refine GG.aald C 0 hr24 (by decide) dX2_another_75 ?_
      refine GG.astore C (lv' := [(7, .ref r24), (6, .int p19.1), (5, .ref s0), (0, .ref a0), (3, .int a3), (4, va_rf a4)]) dX2_another_76 (by decide) rfl ?_
      refine GG.aload C dX2_another_78 0 rfl ?_
      obtain ⟨c25, hf⟩ := gd_some hf
      obtain ⟨v26, hv26, hf⟩ := obd_some hf
      refine GG.d_X2_134 C rfl hv26 ⟨Nat.le_of_ble_eq_true rfl, Nat.le_of_ble_eq_true rfl⟩ (Nat.le_of_ble_eq_true rfl) (Nat.le_of_ble_eq_true rfl) (Nat.le_of_ble_eq_true rfl) dX2_another_80 ?_
      refine GG.iconst C dX2_another_83 ic_1 ?_
      refine GG.icmp_eq C (tgt := 96) dX2_another_84 (by decide) (fun c27 => ?_) (fun c27 => ?_)
      · have hf := if_t hf c27
        refine GG.aload_n C dX2_another_96 3 rfl ?_
        refine GG.iconst C dX2_another_97 ic_5 ?_
        obtain ⟨p28, hp28, hf⟩ := obd_some hf
        refine GG.c_X2_64 C rfl (gX1_fail hp28) c20 ⟨Nat.le_of_ble_eq_true rfl, Nat.le_of_ble_eq_true rfl⟩ ⟨Nat.le_of_ble_eq_true rfl, Nat.le_of_ble_eq_true rfl⟩ (Nat.le_of_ble_eq_true rfl) dX2_another_98 ?_
        obtain ⟨c29, hf⟩ := gd_some hf
        have hf := Option.some.inj hf
        subst hf
        exact GG.athrow C E (Nat.le_of_ble_eq_true rfl) (Nat.le_of_ble_eq_true rfl) c29 dX2_another_101
      · have hf := if_f hf c27
        refine GG.aload C dX2_another_87 0 rfl ?_
        obtain ⟨v30, hv30, hf⟩ := obd_some hf
        refine GG.d_X2_134 C rfl hv30 ⟨Nat.le_of_ble_eq_true rfl, Nat.le_of_ble_eq_true rfl⟩ (Nat.le_of_ble_eq_true rfl) (Nat.le_of_ble_eq_true rfl) (Nat.le_of_ble_eq_true rfl) dX2_another_89 ?_
        refine GG.iconst C dX2_another_92 ic_4 ?_
        refine GG.icmp_ne C (tgt := 102) dX2_another_93 (by decide) (fun c31 => ?_) (fun c31 => ?_)
        · have hf := if_f hf c31
          refine GG.aload C dX2_another_102 2 rfl ?_
          refine GG.iload C dX2_another_104 1 rfl ?_
          obtain ⟨c32, hf⟩ := gd_some hf
          refine GG.px_X2_139 C rfl c32 dX2_another_106 ?_
          refine GG.topM fun M33 hM33 => ?_
          have hf := ltb_s hM33 hf
          refine GG.aload C dX2_another_109 2 rfl ?_
          refine GG.iconst C dX2_another_111 ic_1 ?_
          refine GG.iload C dX2_another_112 1 rfl ?_
          refine GG.ishl C dX2_another_114 ?_
          obtain ⟨c34, hf⟩ := gd_some hf
          refine GG.px_X2_142 C rfl c34 dX2_another_115 ?_
          refine GG.topM fun M35 hM35 => ?_
          have hf := ltb_s hM35 hf
          refine GG.aload C dX2_another_118 2 rfl ?_
          refine GG.aload C dX2_another_120 0 rfl ?_
          obtain ⟨c36, hf⟩ := gd_some hf
          refine GG.gx_X2_145 C rfl c36 dX2_another_122 ?_
          obtain ⟨c37, hf⟩ := gd_some hf
          refine GG.px_X2_145 C rfl c37 dX2_another_125 ?_
          refine GG.topM fun M38 hM38 => ?_
          have hf := ltb_s hM38 hf
          refine GG.aload_n C dX2_another_128 3 rfl ?_
          obtain ⟨c39, hf⟩ := gd_some hf
          obtain ⟨p40, hp40, hf⟩ := obd_some hf
          refine GG.c_X2_27 C rfl (gX1_next hp40) c39 ⟨Nat.le_of_ble_eq_true rfl, Nat.le_of_ble_eq_true rfl⟩ ⟨Nat.le_of_ble_eq_true rfl, Nat.le_of_ble_eq_true rfl⟩ (Nat.le_of_ble_eq_true rfl) dX2_another_129 ?_
          refine GG.aloadO C dX2_another_132 5 rfl ?_
          cases a4 with
          | none =>
            refine GG.ifnullN C (tgt := 162) dX2_another_134 (by decide) ?_
            refine GG.aload C dX2_another_162 2 rfl ?_
            have hf := Option.some.inj hf
            subst hf
            refine GG.widen (cs' := rX2_another.cells) (sl' := rX2_another.slots) (Nat.le_of_ble_eq_true rfl) (Nat.le_of_ble_eq_true rfl) ?_
            exact GG.aretX C (Or.inl ⟨_, rfl⟩) E dX2_another_164
          | some r41 =>
            refine GG.ifnull C dX2_another_134 ?_
            refine GG.aload_n C dX2_another_137 3 rfl ?_
            refine GG.iload_n C dX2_another_138 4 rfl ?_
            refine GG.iconst C dX2_another_139 ic_2 ?_
            refine GG.icmp_ne C (tgt := 148) dX2_another_140 (by decide) (fun c42 => ?_) (fun c42 => ?_)
            · have hf := if_f hf c42
              refine GG.bipush C dX2_another_148 bp_6 ?_
              obtain ⟨c43, hf⟩ := gd_some hf
              obtain ⟨p44, hp44, hf⟩ := obd_some hf
              cases p44 with
              | inl p44 =>
                refine GG.c_X2_108l C rfl (gX2_word hp44) c43 ⟨Nat.le_of_ble_eq_true rfl, Nat.le_of_ble_eq_true rfl⟩ ⟨Nat.le_of_ble_eq_true rfl, Nat.le_of_ble_eq_true rfl⟩ (Nat.le_of_ble_eq_true rfl) dX2_another_150 ?_
                refine GG.aload C dX2_another_153 5 rfl ?_
                refine GG.aload_n C dX2_another_155 3 rfl ?_
                obtain ⟨c45, hf⟩ := gd_some hf
                obtain ⟨p46, hp46, hf⟩ := obd_some hf
                cases p46 with
                | inl p46 =>
                  refine GG.c_X2_111l C rfl (gX2_told hp46) c45 ⟨Nat.le_of_ble_eq_true rfl, Nat.le_of_ble_eq_true rfl⟩ ⟨Nat.le_of_ble_eq_true rfl, Nat.le_of_ble_eq_true rfl⟩ (Nat.le_of_ble_eq_true rfl) dX2_another_156 ?_
                  obtain ⟨c47, hf⟩ := gd_some hf
                  refine GG.px_X2_148 C rfl c47 dX2_another_159 ?_
                  refine GG.topM fun M48 hM48 => ?_
                  have hf := ltb_s hM48 hf
                  refine GG.aload C dX2_another_162 2 rfl ?_
                  have hf := Option.some.inj hf
                  subst hf
                  refine GG.widen (cs' := rX2_another.cells) (sl' := rX2_another.slots) (Nat.le_of_ble_eq_true rfl) (Nat.le_of_ble_eq_true rfl) ?_
                  exact GG.aretX C (Or.inl ⟨_, rfl⟩) E dX2_another_164
                | inr p46 =>
                  obtain ⟨c49, hf⟩ := gd_some hf
                  have hf := Option.some.inj hf
                  subst hf
                  exact GG.c_X2_111r C rfl (gX2_told hp46) c45 ⟨Nat.le_of_ble_eq_true rfl, Nat.le_of_ble_eq_true rfl⟩ ⟨Nat.le_of_ble_eq_true rfl, Nat.le_of_ble_eq_true rfl⟩ (Nat.le_of_ble_eq_true rfl) dX2_another_156 c49 E ⟨Nat.le_of_ble_eq_true rfl, Nat.le_of_ble_eq_true rfl⟩
              | inr p44 =>
                obtain ⟨c50, hf⟩ := gd_some hf
                have hf := Option.some.inj hf
                subst hf
                exact GG.c_X2_108r C rfl (gX2_word hp44) c43 ⟨Nat.le_of_ble_eq_true rfl, Nat.le_of_ble_eq_true rfl⟩ ⟨Nat.le_of_ble_eq_true rfl, Nat.le_of_ble_eq_true rfl⟩ (Nat.le_of_ble_eq_true rfl) dX2_another_150 c50 E ⟨Nat.le_of_ble_eq_true rfl, Nat.le_of_ble_eq_true rfl⟩
            · have hf := if_t hf c42
              refine GG.bipush C dX2_another_143 bp_7 ?_
              refine GG.goto C (tgt := 150) dX2_another_145 (by decide) ?_
              obtain ⟨c51, hf⟩ := gd_some hf
              obtain ⟨p52, hp52, hf⟩ := obd_some hf
              cases p52 with
              | inl p52 =>
                refine GG.c_X2_108l C rfl (gX2_word hp52) c51 ⟨Nat.le_of_ble_eq_true rfl, Nat.le_of_ble_eq_true rfl⟩ ⟨Nat.le_of_ble_eq_true rfl, Nat.le_of_ble_eq_true rfl⟩ (Nat.le_of_ble_eq_true rfl) dX2_another_150 ?_
                refine GG.aload C dX2_another_153 5 rfl ?_
                refine GG.aload_n C dX2_another_155 3 rfl ?_
                obtain ⟨c53, hf⟩ := gd_some hf
                obtain ⟨p54, hp54, hf⟩ := obd_some hf
                cases p54 with
                | inl p54 =>
                  refine GG.c_X2_111l C rfl (gX2_told hp54) c53 ⟨Nat.le_of_ble_eq_true rfl, Nat.le_of_ble_eq_true rfl⟩ ⟨Nat.le_of_ble_eq_true rfl, Nat.le_of_ble_eq_true rfl⟩ (Nat.le_of_ble_eq_true rfl) dX2_another_156 ?_
                  obtain ⟨c55, hf⟩ := gd_some hf
                  refine GG.px_X2_148 C rfl c55 dX2_another_159 ?_
                  refine GG.topM fun M56 hM56 => ?_
                  have hf := ltb_s hM56 hf
                  refine GG.aload C dX2_another_162 2 rfl ?_
                  have hf := Option.some.inj hf
                  subst hf
                  refine GG.widen (cs' := rX2_another.cells) (sl' := rX2_another.slots) (Nat.le_of_ble_eq_true rfl) (Nat.le_of_ble_eq_true rfl) ?_
                  exact GG.aretX C (Or.inl ⟨_, rfl⟩) E dX2_another_164
                | inr p54 =>
                  obtain ⟨c57, hf⟩ := gd_some hf
                  have hf := Option.some.inj hf
                  subst hf
                  exact GG.c_X2_111r C rfl (gX2_told hp54) c53 ⟨Nat.le_of_ble_eq_true rfl, Nat.le_of_ble_eq_true rfl⟩ ⟨Nat.le_of_ble_eq_true rfl, Nat.le_of_ble_eq_true rfl⟩ (Nat.le_of_ble_eq_true rfl) dX2_another_156 c57 E ⟨Nat.le_of_ble_eq_true rfl, Nat.le_of_ble_eq_true rfl⟩
              | inr p52 =>
                obtain ⟨c58, hf⟩ := gd_some hf
                have hf := Option.some.inj hf
                subst hf
                exact GG.c_X2_108r C rfl (gX2_word hp52) c51 ⟨Nat.le_of_ble_eq_true rfl, Nat.le_of_ble_eq_true rfl⟩ ⟨Nat.le_of_ble_eq_true rfl, Nat.le_of_ble_eq_true rfl⟩ (Nat.le_of_ble_eq_true rfl) dX2_another_150 c58 E ⟨Nat.le_of_ble_eq_true rfl, Nat.le_of_ble_eq_true rfl⟩
        · have hf := if_t hf c31
          refine GG.aload_n C dX2_another_96 3 rfl ?_
          refine GG.iconst C dX2_another_97 ic_5 ?_
          obtain ⟨p60, hp60, hf⟩ := obd_some hf
          refine GG.c_X2_64 C rfl (gX1_fail hp60) c20 ⟨Nat.le_of_ble_eq_true rfl, Nat.le_of_ble_eq_true rfl⟩ ⟨Nat.le_of_ble_eq_true rfl, Nat.le_of_ble_eq_true rfl⟩ (Nat.le_of_ble_eq_true rfl) dX2_another_98 ?_
          obtain ⟨c61, hf⟩ := gd_some hf
          have hf := Option.some.inj hf
          subst hf
          exact GG.athrow C E (Nat.le_of_ble_eq_true rfl) (Nat.le_of_ble_eq_true rfl) c61 dX2_another_101
    | inr p19 =>
      obtain ⟨c62, hf⟩ := gd_some hf
      have hf := Option.some.inj hf
      subst hf
      exact GG.c_X2_127r C rfl (gX2_aChange hp19) c18 ⟨Nat.le_of_ble_eq_true rfl, Nat.le_of_ble_eq_true rfl⟩ ⟨Nat.le_of_ble_eq_true rfl, Nat.le_of_ble_eq_true rfl⟩ (Nat.le_of_ble_eq_true rfl) dX2_another_61 c62 E ⟨Nat.le_of_ble_eq_true rfl, Nat.le_of_ble_eq_true rfl⟩
  | inr p17 =>
    obtain ⟨c63, hf⟩ := gd_some hf
    have hf := Option.some.inj hf
    subst hf
    exact GG.c_X2_108r C rfl (gX2_word hp17) c16 ⟨Nat.le_of_ble_eq_true rfl, Nat.le_of_ble_eq_true rfl⟩ ⟨Nat.le_of_ble_eq_true rfl, Nat.le_of_ble_eq_true rfl⟩ (Nat.le_of_ble_eq_true rfl) dX2_another_57 c63 E ⟨Nat.le_of_ble_eq_true rfl, Nat.le_of_ble_eq_true rfl⟩
theorem gX2_another_25 {K : gK} {X : gX} {S : Option MS} (C : gC K X cX2_another 8 yX2_another (some (Jvm.ClassFile.FieldType.object "SwapBook$Change")) rX2_another)  {o : ((Nat × XS) ⊕ (Nat × XS))} (E : gEX K X (oR o) (oRm o) S rX2_another.cells rX2_another.slots)   :
    ∀ (M : XS) (a0 : Nat) (a1 : Int64) (a3 : Int32) (s0 : Option Nat), fX2_another_25  M a0 a1 a3 s0 = some o → GG K X 8 1 10 M S 25 [(0, .ref a0), (1, .long a1), (3, .int a3)] [va_rf s0] := by
  intro M a0 a1 a3 s0 hf
  unfold fX2_another_25 at hf
  refine GG.astoreO C (lv' := [(4, va_rf s0), (0, .ref a0), (1, .long a1), (3, .int a3)]) dX2_another_25 (by decide) rfl ?_
  refine GG.aloadO C dX2_another_27 0 rfl ?_
  cases s0 with
  | none =>
    refine GG.ifnonnullN C dX2_another_29 ?_
    refine GG.new C (ci := 1) (r := (RX11, TX11, 8)) rfl q947 q948 q169 (Nat.le_of_ble_eq_true rfl) (Nat.le_of_ble_eq_true rfl) dX2_another_32 ?_
    refine GG.topx fun z9 hz9 => ?_
    have hf := ltb_s hz9 hf
    refine GG.topM fun M10 hM10 => ?_
    have hf := ltb_s hM10 hf
    refine GG.dup C dX2_another_35 rfl ?_
    refine GG.lload_n C dX2_another_36 2 rfl ?_
    refine GG.aload_n C dX2_another_37 1 rfl ?_
    obtain ⟨c11, hf⟩ := gd_some hf
    obtain ⟨r12, hr12, hf⟩ := obd_some hf
    refine GG.gx_X2_39 C rfl c11 hr12 dX2_another_38 ?_
    obtain ⟨c13, hf⟩ := gd_some hf
    refine GG.gx_X2_75 C rfl c13 dX2_another_41 ?_
    obtain ⟨p14, hp14, hf⟩ := obd_some hf
    refine GG.c_X2_126 C rfl (gX11_init hp14) ⟨Nat.le_of_ble_eq_true rfl, Nat.le_of_ble_eq_true rfl⟩ ⟨Nat.le_of_ble_eq_true rfl, Nat.le_of_ble_eq_true rfl⟩ (Nat.le_of_ble_eq_true rfl) dX2_another_44 ?_
    refine GG.goto C (tgt := 52) dX2_another_47 (by decide) ?_
    refine GG.sub [1, 3, 0] rfl ?_
    exact gX2_another_52 C E  p14 a0 a3 none z9 hf
  | some r8 =>
    refine GG.ifnonnull C (tgt := 50) dX2_another_29 (by decide) ?_
    refine GG.aload C dX2_another_50 0 rfl ?_
    refine GG.widen (cs' := 2) (sl' := 18) (Nat.le_of_ble_eq_true rfl) (Nat.le_of_ble_eq_true rfl) ?_
    refine GG.sub [1, 3, 0] rfl ?_
    exact gX2_another_52 C E  M a0 a3 (some r8) r8 hf
theorem gX2_another {K : gK} {S : Option MS}  {M : XS} {a0 : Nat} {a1 : Int64} {a3 : Int32} {o : ((Nat × XS) ⊕ (Nat × XS))} (hf : fX2_another M a0 a1 a3 = some o) : gMetX K yX2_another cX2_another 8 (some (Jvm.ClassFile.FieldType.object "SwapBook$Change")) rX2_another [(.ref a0), (.long a1), (.int a3)] M S (oR o) (oRm o) S := by
  refine gMetX.of pn_X2 (Nat.le_of_ble_eq_true rfl) fun X C E => ?_
  unfold fX2_another at hf
  show GG K X 8 0 0 M S 0 [(0, .ref a0), (1, .long a1), (3, .int a3)] []
  refine GG.iload_n C dX2_another_0 2 rfl ?_
  refine GG.iconst C dX2_another_1 ic_1 ?_
  refine GG.icmp_ne C (tgt := 9) dX2_another_2 (by decide) (fun c1 => ?_) (fun c1 => ?_)
  · have hf := if_f hf c1
    refine GG.new C (ci := 2) (r := (RX10, TX10, 10)) rfl q925 q926 q168 (Nat.le_of_ble_eq_true rfl) (Nat.le_of_ble_eq_true rfl) dX2_another_9 ?_
    refine GG.topx fun z2 hz2 => ?_
    have hf := ltb_s hz2 hf
    refine GG.topM fun M3 hM3 => ?_
    have hf := ltb_s hM3 hf
    refine GG.dup C dX2_another_12 rfl ?_
    refine GG.lload_n C dX2_another_13 1 rfl ?_
    refine GG.aload_n C dX2_another_14 0 rfl ?_
    obtain ⟨c4, hf⟩ := gd_some hf
    obtain ⟨r5, hr5, hf⟩ := obd_some hf
    refine GG.gx_X2_39 C rfl c4 hr5 dX2_another_15 ?_
    obtain ⟨c6, hf⟩ := gd_some hf
    refine GG.gx_X2_75 C rfl c6 dX2_another_18 ?_
    refine GG.iload_n C dX2_another_21 2 rfl ?_
    obtain ⟨p7, hp7, hf⟩ := obd_some hf
    refine GG.c_X2_121 C rfl (gX10_init hp7) ⟨Nat.le_of_ble_eq_true rfl, Nat.le_of_ble_eq_true rfl⟩ ⟨Nat.le_of_ble_eq_true rfl, Nat.le_of_ble_eq_true rfl⟩ (Nat.le_of_ble_eq_true rfl) dX2_another_22 ?_
    refine GG.sub [0, 1, 2] rfl ?_
    exact gX2_another_25 C E  p7 a0 a1 a3 (some z2) hf
  · have hf := if_t hf c1
    refine GG.null C dX2_another_5 ?_
    refine GG.goto C (tgt := 25) dX2_another_6 (by decide) ?_
    refine GG.widen (cs' := 1) (sl' := 10) (Nat.le_of_ble_eq_true rfl) (Nat.le_of_ble_eq_true rfl) ?_
    refine GG.sub [0, 1, 2] rfl ?_
    exact gX2_another_25 C E  M a0 a1 a3 none hf
theorem gX2_isName {K : gK} {S : Option MS}  {M : XS} {a0 : Nat} {o : Int32} (hf : fX2_isName M a0 = some o) : gMet K yX2_isName cX2_isName 1 (some Jvm.ClassFile.FieldType.boolean) rX2_isName [(.ref a0)] M S (some (.int o)) M S := by
  refine gMet.of pn_X2 (Nat.le_of_ble_eq_true rfl) fun X C E => ?_
  unfold fX2_isName at hf
  show GG K X 1 0 0 M S 0 [(0, .ref a0)] []
  refine GG.aload_n C dX2_isName_0 0 rfl ?_
  obtain ⟨c1, hf⟩ := gd_some hf
  refine GG.gx_X2_31 C rfl c1 dX2_isName_1 ?_
  refine GG.iconst C dX2_isName_4 ic_2 ?_
  refine GG.icmp_ne C (tgt := 20) dX2_isName_5 (by decide) (fun c2 => ?_) (fun c2 => ?_)
  · have hf := if_f hf c2
    refine GG.iconst C dX2_isName_20 ic_0 ?_
    have hf := Option.some.inj hf
    subst hf
    exact GG.zret C zb_0 E dX2_isName_21
  · have hf := if_t hf c2
    refine GG.aload_n C dX2_isName_8 0 rfl ?_
    obtain ⟨v3, hv3, hf⟩ := obd_some hf
    refine GG.c_X2_19 C rfl (gX1_key hv3) c1 ⟨Nat.le_of_ble_eq_true rfl, Nat.le_of_ble_eq_true rfl⟩ ⟨Nat.le_of_ble_eq_true rfl, Nat.le_of_ble_eq_true rfl⟩ (Nat.le_of_ble_eq_true rfl) dX2_isName_9 ?_
    refine GG.iconst C dX2_isName_12 ic_m1 ?_
    refine GG.icmp_ne C (tgt := 20) dX2_isName_13 (by decide) (fun c4 => ?_) (fun c4 => ?_)
    · have hf := if_f hf c4
      refine GG.iconst C dX2_isName_20 ic_0 ?_
      have hf := Option.some.inj hf
      subst hf
      exact GG.zret C zb_0 E dX2_isName_21
    · have hf := if_t hf c4
      refine GG.iconst C dX2_isName_16 ic_1 ?_
      refine GG.goto C (tgt := 21) dX2_isName_17 (by decide) ?_
      have hf := Option.some.inj hf
      subst hf
      exact GG.zret C zb_1 E dX2_isName_21
theorem gX2_after_6 {K : gK} {X : gX} {S : Option MS} (C : gC K X cX2_after 4 yX2_after none rX2_after)  {o : (XS ⊕ (Nat × XS))} (E : gEX K X (oV o) (oVm o) S rX2_after.cells rX2_after.slots)   :
    ∀ (n : Nat) (M : XS) (a0 : Nat) (a1 : Nat) (a2 : Int32), fX2_after_6  n M a0 a1 a2 = some o → GG K X 4 0 0 M S 6 [(0, .ref a0), (1, .ref a1), (2, .int a2)] [] := by
  intro n
  induction n with
  | zero => intro M a0 a1 a2 hf; cases hf
  | succ n ih =>
    intro M a0 a1 a2 hf
    rw [fX2_after_6] at hf
    refine GG.aload_n C dX2_after_6 0 rfl ?_
    obtain ⟨c3, hf⟩ := gd_some hf
    obtain ⟨p4, hp4, hf⟩ := obd_some hf
    cases p4 with
    | inl p4 =>
      refine GG.c_X2_127l C rfl (gX2_aChange hp4) c3 ⟨Nat.le_of_ble_eq_true rfl, Nat.le_of_ble_eq_true rfl⟩ ⟨Nat.le_of_ble_eq_true rfl, Nat.le_of_ble_eq_true rfl⟩ (Nat.le_of_ble_eq_true rfl) dX2_after_7 ?_
      refine GG.istore_n C (lv' := [(3, .int p4.1), (0, .ref a0), (1, .ref a1), (2, .int a2)]) dX2_after_10 (by decide) rfl ?_
      refine GG.iload_n C dX2_after_11 3 rfl ?_
      refine GG.iload_n C dX2_after_12 0 rfl ?_
      refine GG.ishr C dX2_after_13 ?_
      refine GG.iconst C dX2_after_14 ic_1 ?_
      refine GG.iand C dX2_after_15 ?_
      refine GG.iconst C dX2_after_16 ic_1 ?_
      refine GG.icmp_ne C (tgt := 26) dX2_after_17 (by decide) (fun c5 => ?_) (fun c5 => ?_)
      · have hf := if_f hf c5
        refine GG.iload_n C dX2_after_26 3 rfl ?_
        refine GG.iconst C dX2_after_27 ic_1 ?_
        refine GG.iload_n C dX2_after_28 0 rfl ?_
        refine GG.ishl C dX2_after_29 ?_
        refine GG.ior C dX2_after_30 ?_
        refine GG.topi fun x6 hx6 => ?_
        have hf := ltb_s hx6 hf
        refine GG.istore_n C (lv' := [(2, .int x6), (3, .int p4.1), (0, .ref a0), (1, .ref a1)]) dX2_after_31 (by decide) rfl ?_
        refine GG.aload_n C dX2_after_32 2 rfl ?_
        obtain ⟨c7, hf⟩ := gd_some hf
        obtain ⟨p8, hp8, hf⟩ := obd_some hf
        refine GG.c_X2_27 C rfl (gX1_next hp8) c7 ⟨Nat.le_of_ble_eq_true rfl, Nat.le_of_ble_eq_true rfl⟩ ⟨Nat.le_of_ble_eq_true rfl, Nat.le_of_ble_eq_true rfl⟩ (Nat.le_of_ble_eq_true rfl) dX2_after_33 ?_
        refine GG.aload_n C dX2_after_36 2 rfl ?_
        obtain ⟨c9, hf⟩ := gd_some hf
        obtain ⟨v10, hv10, hf⟩ := obd_some hf
        refine GG.c_X2_166 C rfl (gX2_isName hv10) c9 ⟨Nat.le_of_ble_eq_true rfl, Nat.le_of_ble_eq_true rfl⟩ ⟨Nat.le_of_ble_eq_true rfl, Nat.le_of_ble_eq_true rfl⟩ (Nat.le_of_ble_eq_true rfl) dX2_after_37 ?_
        refine GG.if_ne C (tgt := 6) dX2_after_40 (by decide) (fun c11 => ?_) (fun c11 => ?_)
        · have hf := if_f hf c11
          refine GG.sub [2, 3, 0] rfl ?_
          exact ih _ _ _ _ hf
        · have hf := if_t hf c11
          refine GG.aload_n C dX2_after_43 3 rfl ?_
          refine GG.dup C dX2_after_44 rfl ?_
          obtain ⟨c12, hf⟩ := gd_some hf
          refine GG.gx_X2_142 C rfl c12 dX2_after_45 ?_
          refine GG.iload_n C dX2_after_48 0 rfl ?_
          refine GG.ior C dX2_after_49 ?_
          refine GG.px_X2_142 C rfl c12 dX2_after_50 ?_
          refine GG.topM fun M13 hM13 => ?_
          have hf := ltb_s hM13 hf
          have hf := Option.some.inj hf
          subst hf
          exact GG.vretX C E dX2_after_53
      · have hf := if_t hf c5
        refine GG.aload_n C dX2_after_20 1 rfl ?_
        refine GG.iconst C dX2_after_21 ic_5 ?_
        obtain ⟨c14, hf⟩ := gd_some hf
        obtain ⟨p15, hp15, hf⟩ := obd_some hf
        refine GG.c_X2_64 C rfl (gX1_fail hp15) c14 ⟨Nat.le_of_ble_eq_true rfl, Nat.le_of_ble_eq_true rfl⟩ ⟨Nat.le_of_ble_eq_true rfl, Nat.le_of_ble_eq_true rfl⟩ (Nat.le_of_ble_eq_true rfl) dX2_after_22 ?_
        obtain ⟨c16, hf⟩ := gd_some hf
        have hf := Option.some.inj hf
        subst hf
        exact GG.athrow C E (Nat.le_of_ble_eq_true rfl) (Nat.le_of_ble_eq_true rfl) c16 dX2_after_25
    | inr p4 =>
      obtain ⟨c17, hf⟩ := gd_some hf
      have hf := Option.some.inj hf
      subst hf
      exact GG.c_X2_127r C rfl (gX2_aChange hp4) c3 ⟨Nat.le_of_ble_eq_true rfl, Nat.le_of_ble_eq_true rfl⟩ ⟨Nat.le_of_ble_eq_true rfl, Nat.le_of_ble_eq_true rfl⟩ (Nat.le_of_ble_eq_true rfl) dX2_after_7 c17 E ⟨Nat.le_of_ble_eq_true rfl, Nat.le_of_ble_eq_true rfl⟩
theorem gX2_after {K : gK} {S : Option MS}  {M : XS} {a0 : Nat} {a1 : Nat} {o : (XS ⊕ (Nat × XS))} (hf : fX2_after M a0 a1 = some o) : gMetX K yX2_after cX2_after 4 none rX2_after [(.ref a0), (.ref a1)] M S (oV o) (oVm o) S := by
  refine gMetX.of pn_X2 (Nat.le_of_ble_eq_true rfl) fun X C E => ?_
  unfold fX2_after at hf
  show GG K X 4 0 0 M S 0 [(0, .ref a0), (1, .ref a1)] []
  refine GG.aload_n C dX2_after_0 0 rfl ?_
  obtain ⟨c1, hf⟩ := gd_some hf
  obtain ⟨p2, hp2, hf⟩ := obd_some hf
  refine GG.c_X2_27 C rfl (gX1_next hp2) c1 ⟨Nat.le_of_ble_eq_true rfl, Nat.le_of_ble_eq_true rfl⟩ ⟨Nat.le_of_ble_eq_true rfl, Nat.le_of_ble_eq_true rfl⟩ (Nat.le_of_ble_eq_true rfl) dX2_after_1 ?_
  refine GG.iconst C dX2_after_4 ic_0 ?_
  refine GG.istore_n C (lv' := [(2, .int (nI 0)), (0, .ref a0), (1, .ref a1)]) dX2_after_5 (by decide) rfl ?_
  refine GG.sub [1, 2, 0] rfl ?_
  exact gX2_after_6 C E  FU _ _ _ _ hf
theorem gX4_add_76 {K : gK} {X : gX} {S : Option MS} (C : gC K X cX4_add 3 yX4_add none rX4_add)  {o : XS} (E : gE K X none o S rX4_add.cells rX4_add.slots)   :
    ∀ (n : Nat) (M : XS) (a0 : Nat) (a1 : Nat) (a2 : Int32), fX4_add_76  n M a0 a1 a2 = some o → GG K X 3 0 0 M S 76 [(0, .ref a0), (1, .ref a1), (2, .int a2)] [] := by
  intro n
  induction n with
  | zero => intro M a0 a1 a2 hf; cases hf
  | succ n ih =>
    intro M a0 a1 a2 hf
    rw [fX4_add_76] at hf
    refine GG.iload_n C dX4_add_76 2 rfl ?_
    refine GG.aload_n C dX4_add_77 0 rfl ?_
    obtain ⟨c15, hf⟩ := gd_some hf
    refine GG.gx_X4_21 C rfl c15 dX4_add_78 ?_
    refine GG.icmp_ge C (tgt := 169) dX4_add_81 (by decide) (fun c16 => ?_) (fun c16 => ?_)
    · have hf := if_t hf c16
      refine GG.aload_n C dX4_add_169 0 rfl ?_
      obtain ⟨r17, hr17, hf⟩ := obd_some hf
      refine GG.gx_X4_11 C rfl c15 hr17 dX4_add_170 ?_
      refine GG.aload_n C dX4_add_173 0 rfl ?_
      refine GG.gx_X4_21 C rfl c15 dX4_add_174 ?_
      refine GG.aload_n C dX4_add_177 1 rfl ?_
      obtain ⟨c18, hf⟩ := gd_some hf
      obtain ⟨M19, hM19, hf⟩ := obd_some hf
      refine GG.aastC C hM19 c18 dX4_add_178 ?_
      refine GG.aload_n C dX4_add_179 0 rfl ?_
      refine GG.dup C dX4_add_180 rfl ?_
      obtain ⟨c20, hf⟩ := gd_some hf
      refine GG.gx_X4_21 C rfl c20 dX4_add_181 ?_
      refine GG.iconst C dX4_add_184 ic_1 ?_
      refine GG.iadd C dX4_add_185 ?_
      refine GG.px_X4_21 C rfl c20 dX4_add_186 ?_
      refine GG.topM fun M21 hM21 => ?_
      have hf := ltb_s hM21 hf
      have hf := Option.some.inj hf
      subst hf
      exact GG.vret C E dX4_add_189
    · have hf := if_f hf c16
      refine GG.aload_n C dX4_add_84 1 rfl ?_
      obtain ⟨c22, hf⟩ := gd_some hf
      refine GG.gx_X4_35 C rfl c22 dX4_add_85 ?_
      refine GG.iload_n C dX4_add_88 2 rfl ?_
      refine GG.ishr C dX4_add_89 ?_
      refine GG.iconst C dX4_add_90 ic_1 ?_
      refine GG.iand C dX4_add_91 ?_
      refine GG.iconst C dX4_add_92 ic_1 ?_
      refine GG.icmp_eq C (tgt := 163) dX4_add_93 (by decide) (fun c23 => ?_) (fun c23 => ?_)
      · have hf := if_t hf c23
        refine GG.iinc C (v := (a2 + (nI 1))) (lv' := [(2, .int (a2 + (nI 1))), (0, .ref a0), (1, .ref a1)]) dX4_add_163 2 rfl (congrArg (a2 + ·) ic_1) (by decide) rfl ?_
        refine GG.goto C (tgt := 76) dX4_add_166 (by decide) ?_
        refine GG.sub [1, 2, 0] rfl ?_
        exact ih _ _ _ _ hf
      · have hf := if_f hf c23
        refine GG.aload_n C dX4_add_96 0 rfl ?_
        obtain ⟨r24, hr24, hf⟩ := obd_some hf
        refine GG.gx_X4_11 C rfl c15 hr24 dX4_add_97 ?_
        refine GG.iload_n C dX4_add_100 2 rfl ?_
        obtain ⟨r25, hr25, hf⟩ := obd_some hf
        refine GG.aald C 0 hr25 (by decide) dX4_add_101 ?_
        obtain ⟨c26, hf⟩ := gd_some hf
        refine GG.gx_X4_47 C rfl c26 dX4_add_102 ?_
        refine GG.aload_n C dX4_add_105 1 rfl ?_
        refine GG.gx_X4_47 C rfl c22 dX4_add_106 ?_
        refine GG.icmp_ne C (tgt := 163) dX4_add_109 (by decide) (fun c27 => ?_) (fun c27 => ?_)
        · have hf := if_f hf c27
          refine GG.iinc C (v := (a2 + (nI 1))) (lv' := [(2, .int (a2 + (nI 1))), (0, .ref a0), (1, .ref a1)]) dX4_add_163 2 rfl (congrArg (a2 + ·) ic_1) (by decide) rfl ?_
          refine GG.goto C (tgt := 76) dX4_add_166 (by decide) ?_
          refine GG.sub [1, 2, 0] rfl ?_
          exact ih _ _ _ _ hf
        · have hf := if_t hf c27
          refine GG.aload_n C dX4_add_112 1 rfl ?_
          refine GG.aload_n C dX4_add_113 0 rfl ?_
          obtain ⟨r28, hr28, hf⟩ := obd_some hf
          refine GG.gx_X4_11 C rfl c15 hr28 dX4_add_114 ?_
          refine GG.iload_n C dX4_add_117 2 rfl ?_
          obtain ⟨r29, hr29, hf⟩ := obd_some hf
          refine GG.aald C 0 hr29 (by decide) dX4_add_118 ?_
          obtain ⟨c30, hf⟩ := gd_some hf
          obtain ⟨v31, hv31, hf⟩ := obd_some hf
          refine GG.d_X4_50 C rfl hv31 ⟨Nat.le_of_ble_eq_true rfl, Nat.le_of_ble_eq_true rfl⟩ (Nat.le_of_ble_eq_true rfl) (Nat.le_of_ble_eq_true rfl) (Nat.le_of_ble_eq_true rfl) dX4_add_119 ?_
          obtain ⟨v32, hv32, hf⟩ := obd_some hf
          refine GG.d_X4_54 C rfl hv32 ⟨Nat.le_of_ble_eq_true rfl, Nat.le_of_ble_eq_true rfl⟩ (Nat.le_of_ble_eq_true rfl) (Nat.le_of_ble_eq_true rfl) (Nat.le_of_ble_eq_true rfl) dX4_add_122 ?_
          refine GG.if_ne C (tgt := 131) dX4_add_125 (by decide) (fun c33 => ?_) (fun c33 => ?_)
          · have hf := if_f hf c33
            refine GG.aload_n C dX4_add_131 1 rfl ?_
            refine GG.dup C dX4_add_132 rfl ?_
            refine GG.gx_X4_58 C rfl c22 dX4_add_133 ?_
            refine GG.iconst C dX4_add_136 ic_1 ?_
            refine GG.iload_n C dX4_add_137 2 rfl ?_
            refine GG.ishl C dX4_add_138 ?_
            refine GG.ior C dX4_add_139 ?_
            refine GG.px_X4_58 C rfl c22 dX4_add_140 ?_
            refine GG.topM fun M34 hM34 => ?_
            have hf := ltb_s hM34 hf
            refine GG.aload_n C dX4_add_143 0 rfl ?_
            obtain ⟨c35, hf⟩ := gd_some hf
            obtain ⟨r36, hr36, hf⟩ := obd_some hf
            refine GG.gx_X4_11 C rfl c35 hr36 dX4_add_144 ?_
            refine GG.iload_n C dX4_add_147 2 rfl ?_
            obtain ⟨r37, hr37, hf⟩ := obd_some hf
            refine GG.aald C 0 hr37 (by decide) dX4_add_148 ?_
            refine GG.dup C dX4_add_149 rfl ?_
            obtain ⟨c38, hf⟩ := gd_some hf
            refine GG.gx_X4_58 C rfl c38 dX4_add_150 ?_
            refine GG.iconst C dX4_add_153 ic_1 ?_
            refine GG.aload_n C dX4_add_154 0 rfl ?_
            refine GG.gx_X4_21 C rfl c35 dX4_add_155 ?_
            refine GG.ishl C dX4_add_158 ?_
            refine GG.ior C dX4_add_159 ?_
            refine GG.px_X4_58 C rfl c38 dX4_add_160 ?_
            refine GG.topM fun M39 hM39 => ?_
            have hf := ltb_s hM39 hf
            refine GG.iinc C (v := (a2 + (nI 1))) (lv' := [(2, .int (a2 + (nI 1))), (0, .ref a0), (1, .ref a1)]) dX4_add_163 2 rfl (congrArg (a2 + ·) ic_1) (by decide) rfl ?_
            refine GG.goto C (tgt := 76) dX4_add_166 (by decide) ?_
            refine GG.sub [1, 2, 0] rfl ?_
            exact ih _ _ _ _ hf
          · have hf := if_t hf c33
            refine GG.goto C (tgt := 163) dX4_add_128 (by decide) ?_
            refine GG.iinc C (v := (a2 + (nI 1))) (lv' := [(2, .int (a2 + (nI 1))), (0, .ref a0), (1, .ref a1)]) dX4_add_163 2 rfl (congrArg (a2 + ·) ic_1) (by decide) rfl ?_
            refine GG.goto C (tgt := 76) dX4_add_166 (by decide) ?_
            refine GG.sub [1, 2, 0] rfl ?_
            exact ih _ _ _ _ hf
theorem gX4_add_2 {K : gK} {X : gX} {S : Option MS} (C : gC K X cX4_add 3 yX4_add none rX4_add)  {o : XS} (E : gE K X none o S rX4_add.cells rX4_add.slots)   :
    ∀ (n : Nat) (M : XS) (a0 : Nat) (a1 : Nat) (a2 : Int32), fX4_add_2  n M a0 a1 a2 = some o → GG K X 3 0 0 M S 2 [(0, .ref a0), (1, .ref a1), (2, .int a2)] [] := by
  intro n
  induction n with
  | zero => intro M a0 a1 a2 hf; cases hf
  | succ n ih =>
    intro M a0 a1 a2 hf
    rw [fX4_add_2] at hf
    refine GG.iload_n C dX4_add_2 2 rfl ?_
    refine GG.aload_n C dX4_add_3 0 rfl ?_
    obtain ⟨c1, hf⟩ := gd_some hf
    refine GG.gx_X4_21 C rfl c1 dX4_add_4 ?_
    refine GG.icmp_ge C (tgt := 74) dX4_add_7 (by decide) (fun c2 => ?_) (fun c2 => ?_)
    · have hf := if_t hf c2
      refine GG.iconst C dX4_add_74 ic_0 ?_
      refine GG.istore_n C (lv' := [(2, .int (nI 0)), (0, .ref a0), (1, .ref a1)]) dX4_add_75 (by decide) rfl ?_
      refine GG.sub [1, 2, 0] rfl ?_
      exact gX4_add_76 C E  FU _ _ _ _ hf
    · have hf := if_f hf c2
      refine GG.aload_n C dX4_add_10 1 rfl ?_
      obtain ⟨c3, hf⟩ := gd_some hf
      refine GG.gx_X4_32 C rfl c3 dX4_add_11 ?_
      refine GG.iload_n C dX4_add_14 2 rfl ?_
      refine GG.ishr C dX4_add_15 ?_
      refine GG.iconst C dX4_add_16 ic_1 ?_
      refine GG.iand C dX4_add_17 ?_
      refine GG.if_ne C (tgt := 24) dX4_add_18 (by decide) (fun c4 => ?_) (fun c4 => ?_)
      · have hf := if_f hf c4
        refine GG.aload_n C dX4_add_24 1 rfl ?_
        refine GG.dup C dX4_add_25 rfl ?_
        refine GG.gx_X4_35 C rfl c3 dX4_add_26 ?_
        refine GG.iconst C dX4_add_29 ic_1 ?_
        refine GG.iload_n C dX4_add_30 2 rfl ?_
        refine GG.ishl C dX4_add_31 ?_
        refine GG.aload_n C dX4_add_32 0 rfl ?_
        obtain ⟨r5, hr5, hf⟩ := obd_some hf
        refine GG.gx_X4_11 C rfl c1 hr5 dX4_add_33 ?_
        refine GG.iload_n C dX4_add_36 2 rfl ?_
        obtain ⟨r6, hr6, hf⟩ := obd_some hf
        refine GG.aald C 0 hr6 (by decide) dX4_add_37 ?_
        obtain ⟨c7, hf⟩ := gd_some hf
        refine GG.gx_X4_35 C rfl c7 dX4_add_38 ?_
        refine GG.ior C dX4_add_41 ?_
        refine GG.ior C dX4_add_42 ?_
        refine GG.px_X4_35 C rfl c3 dX4_add_43 ?_
        refine GG.topM fun M8 hM8 => ?_
        have hf := ltb_s hM8 hf
        refine GG.aload_n C dX4_add_46 1 rfl ?_
        refine GG.aload_n C dX4_add_47 1 rfl ?_
        obtain ⟨c9, hf⟩ := gd_some hf
        refine GG.gx_X4_38 C rfl c9 dX4_add_48 ?_
        refine GG.aload_n C dX4_add_51 0 rfl ?_
        obtain ⟨c10, hf⟩ := gd_some hf
        obtain ⟨r11, hr11, hf⟩ := obd_some hf
        refine GG.gx_X4_11 C rfl c10 hr11 dX4_add_52 ?_
        refine GG.iload_n C dX4_add_55 2 rfl ?_
        obtain ⟨r12, hr12, hf⟩ := obd_some hf
        refine GG.aald C 0 hr12 (by decide) dX4_add_56 ?_
        obtain ⟨c13, hf⟩ := gd_some hf
        refine GG.gx_X4_38 C rfl c13 dX4_add_57 ?_
        refine GG.iconst C dX4_add_60 ic_1 ?_
        refine GG.iadd C dX4_add_61 ?_
        refine GG.mmax C q974 (Nat.le_of_ble_eq_true rfl) (Nat.le_of_ble_eq_true rfl) (Nat.le_of_ble_eq_true rfl) (Nat.le_of_ble_eq_true rfl) dX4_add_62 ?_
        refine GG.px_X4_38 C rfl c9 dX4_add_65 ?_
        refine GG.topM fun M14 hM14 => ?_
        have hf := ltb_s hM14 hf
        refine GG.iinc C (v := (a2 + (nI 1))) (lv' := [(2, .int (a2 + (nI 1))), (0, .ref a0), (1, .ref a1)]) dX4_add_68 2 rfl (congrArg (a2 + ·) ic_1) (by decide) rfl ?_
        refine GG.goto C (tgt := 2) dX4_add_71 (by decide) ?_
        refine GG.sub [1, 2, 0] rfl ?_
        exact ih _ _ _ _ hf
      · have hf := if_t hf c4
        refine GG.goto C (tgt := 68) dX4_add_21 (by decide) ?_
        refine GG.iinc C (v := (a2 + (nI 1))) (lv' := [(2, .int (a2 + (nI 1))), (0, .ref a0), (1, .ref a1)]) dX4_add_68 2 rfl (congrArg (a2 + ·) ic_1) (by decide) rfl ?_
        refine GG.goto C (tgt := 2) dX4_add_71 (by decide) ?_
        refine GG.sub [1, 2, 0] rfl ?_
        exact ih _ _ _ _ hf
theorem gX4_add {K : gK} {S : Option MS}  {M : XS} {a0 : Nat} {a1 : Nat} {o : XS} (hf : fX4_add M a0 a1 = some o) : gMet K yX4_add cX4_add 3 none rX4_add [(.ref a0), (.ref a1)] M S none o S := by
  refine gMet.of pn_X4 (Nat.le_of_ble_eq_true rfl) fun X C E => ?_
  unfold fX4_add at hf
  show GG K X 3 0 0 M S 0 [(0, .ref a0), (1, .ref a1)] []
  refine GG.iconst C dX4_add_0 ic_0 ?_
  refine GG.istore_n C (lv' := [(2, .int (nI 0)), (0, .ref a0), (1, .ref a1)]) dX4_add_1 (by decide) rfl ?_
  refine GG.sub [1, 2, 0] rfl ?_
  exact gX4_add_2 C E  FU _ _ _ _ hf
theorem gX2_part_138 {K : gK} {X : gX} {S : Option MS} (C : gC K X cX2_part 5 yX2_part none rX2_part)  {o : (XS ⊕ (Nat × XS))} (E : gEX K X (oV o) (oVm o) S rX2_part.cells rX2_part.slots)   :
    ∀ (M : XS) (a0 : Nat) (s0 : Nat), fX2_part_138  M a0 s0 = some o → GG K X 5 2 18 M S 138 [(0, .ref a0)] [.ref s0] := by
  intro M a0 s0 hf
  unfold fX2_part_138 at hf
  refine GG.astore C (lv' := [(4, .ref s0), (0, .ref a0)]) dX2_part_138 (by decide) rfl ?_
  refine GG.aload_n C dX2_part_140 1 rfl ?_
  obtain ⟨c50, hf⟩ := gd_some hf
  obtain ⟨v51, hv51, hf⟩ := obd_some hf
  refine GG.c_X2_19 C rfl (gX1_key hv51) c50 ⟨Nat.le_of_ble_eq_true rfl, Nat.le_of_ble_eq_true rfl⟩ ⟨Nat.le_of_ble_eq_true rfl, Nat.le_of_ble_eq_true rfl⟩ (Nat.le_of_ble_eq_true rfl) dX2_part_141 ?_
  refine GG.bipush C dX2_part_144 bp_10 ?_
  refine GG.icmp_ne C (tgt := 155) dX2_part_146 (by decide) (fun c52 => ?_) (fun c52 => ?_)
  · have hf := if_f hf c52
    refine GG.aload_n C dX2_part_155 1 rfl ?_
    obtain ⟨r53, hr53, hf⟩ := obd_some hf
    refine GG.gx_X2_39 C rfl c50 hr53 dX2_part_156 ?_
    refine GG.aload C dX2_part_159 0 rfl ?_
    obtain ⟨c54, hf⟩ := gd_some hf
    obtain ⟨p55, hp55, hf⟩ := obd_some hf
    refine GG.c_X2_100 C rfl (gX4_add hp55) c54 ⟨Nat.le_of_ble_eq_true rfl, Nat.le_of_ble_eq_true rfl⟩ ⟨Nat.le_of_ble_eq_true rfl, Nat.le_of_ble_eq_true rfl⟩ (Nat.le_of_ble_eq_true rfl) dX2_part_161 ?_
    have hf := Option.some.inj hf
    subst hf
    refine GG.widen (cs' := rX2_part.cells) (sl' := rX2_part.slots) (Nat.le_of_ble_eq_true rfl) (Nat.le_of_ble_eq_true rfl) ?_
    exact GG.vretX C E dX2_part_164
  · have hf := if_t hf c52
    refine GG.aload_n C dX2_part_149 1 rfl ?_
    refine GG.aload C dX2_part_150 0 rfl ?_
    obtain ⟨p56, hp56, hf⟩ := obd_some hf
    cases p56 with
    | inl p56 =>
      refine GG.c_X2_96l C rfl (gX2_after hp56) c50 ⟨Nat.le_of_ble_eq_true rfl, Nat.le_of_ble_eq_true rfl⟩ ⟨Nat.le_of_ble_eq_true rfl, Nat.le_of_ble_eq_true rfl⟩ (Nat.le_of_ble_eq_true rfl) dX2_part_152 ?_
      refine GG.aload_n C dX2_part_155 1 rfl ?_
      obtain ⟨c57, hf⟩ := gd_some hf
      obtain ⟨r58, hr58, hf⟩ := obd_some hf
      refine GG.gx_X2_39 C rfl c57 hr58 dX2_part_156 ?_
      refine GG.aload C dX2_part_159 0 rfl ?_
      obtain ⟨c59, hf⟩ := gd_some hf
      obtain ⟨p60, hp60, hf⟩ := obd_some hf
      refine GG.c_X2_100 C rfl (gX4_add hp60) c59 ⟨Nat.le_of_ble_eq_true rfl, Nat.le_of_ble_eq_true rfl⟩ ⟨Nat.le_of_ble_eq_true rfl, Nat.le_of_ble_eq_true rfl⟩ (Nat.le_of_ble_eq_true rfl) dX2_part_161 ?_
      have hf := Option.some.inj hf
      subst hf
      refine GG.widen (cs' := rX2_part.cells) (sl' := rX2_part.slots) (Nat.le_of_ble_eq_true rfl) (Nat.le_of_ble_eq_true rfl) ?_
      exact GG.vretX C E dX2_part_164
    | inr p56 =>
      obtain ⟨c61, hf⟩ := gd_some hf
      have hf := Option.some.inj hf
      subst hf
      exact GG.c_X2_96r C rfl (gX2_after hp56) c50 ⟨Nat.le_of_ble_eq_true rfl, Nat.le_of_ble_eq_true rfl⟩ ⟨Nat.le_of_ble_eq_true rfl, Nat.le_of_ble_eq_true rfl⟩ (Nat.le_of_ble_eq_true rfl) dX2_part_152 c61 E ⟨Nat.le_of_ble_eq_true rfl, Nat.le_of_ble_eq_true rfl⟩
theorem gX2_part_63 {K : gK} {X : gX} {S : Option MS} (C : gC K X cX2_part 5 yX2_part none rX2_part)  {o : (XS ⊕ (Nat × XS))} (E : gEX K X (oV o) (oVm o) S rX2_part.cells rX2_part.slots)   :
    ∀ (M : XS) (a0 : Nat) (a1 : Int32), fX2_part_63  M a0 a1 = some o → GG K X 5 0 0 M S 63 [(0, .ref a0), (1, .int a1)] [] := by
  intro M a0 a1 hf
  unfold fX2_part_63 at hf
  refine GG.aload_n C dX2_part_63 0 rfl ?_
  obtain ⟨c22, hf⟩ := gd_some hf
  obtain ⟨p23, hp23, hf⟩ := obd_some hf
  refine GG.c_X2_27 C rfl (gX1_next hp23) c22 ⟨Nat.le_of_ble_eq_true rfl, Nat.le_of_ble_eq_true rfl⟩ ⟨Nat.le_of_ble_eq_true rfl, Nat.le_of_ble_eq_true rfl⟩ (Nat.le_of_ble_eq_true rfl) dX2_part_64 ?_
  refine GG.aload_n C dX2_part_67 0 rfl ?_
  obtain ⟨c24, hf⟩ := gd_some hf
  obtain ⟨p25, hp25, hf⟩ := obd_some hf
  cases p25 with
  | inl p25 =>
    refine GG.c_X2_78l C rfl (gX2_newName hp25) c24 ⟨Nat.le_of_ble_eq_true rfl, Nat.le_of_ble_eq_true rfl⟩ ⟨Nat.le_of_ble_eq_true rfl, Nat.le_of_ble_eq_true rfl⟩ (Nat.le_of_ble_eq_true rfl) dX2_part_68 ?_
    refine GG.lstore_n C (lv' := [(2, .long p25.1), (0, .ref a0), (1, .int a1)]) dX2_part_71 (by decide) rfl ?_
    refine GG.iload_n C dX2_part_72 2 rfl ?_
    refine GG.iconst C dX2_part_73 ic_5 ?_
    refine GG.icmp_ne C (tgt := 107) dX2_part_74 (by decide) (fun c26 => ?_) (fun c26 => ?_)
    · have hf := if_f hf c26
      refine GG.iload_n C dX2_part_107 2 rfl ?_
      refine GG.if_ne C (tgt := 119) dX2_part_108 (by decide) (fun c27 => ?_) (fun c27 => ?_)
      · have hf := if_f hf c27
        refine GG.iload_n C dX2_part_119 2 rfl ?_
        refine GG.iconst C dX2_part_120 ic_4 ?_
        refine GG.icmp_ne C (tgt := 132) dX2_part_121 (by decide) (fun c28 => ?_) (fun c28 => ?_)
        · have hf := if_f hf c28
          refine GG.aload_n C dX2_part_132 1 rfl ?_
          refine GG.lload_n C dX2_part_133 0 rfl ?_
          refine GG.iload_n C dX2_part_134 2 rfl ?_
          obtain ⟨c29, hf⟩ := gd_some hf
          obtain ⟨p30, hp30, hf⟩ := obd_some hf
          cases p30 with
          | inl p30 =>
            refine GG.c_X2_92l C rfl (gX2_another hp30) c29 ⟨Nat.le_of_ble_eq_true rfl, Nat.le_of_ble_eq_true rfl⟩ ⟨Nat.le_of_ble_eq_true rfl, Nat.le_of_ble_eq_true rfl⟩ (Nat.le_of_ble_eq_true rfl) dX2_part_135 ?_
            refine GG.sub [1] rfl ?_
            exact gX2_part_138 C E  _ _ _ hf
          | inr p30 =>
            obtain ⟨c31, hf⟩ := gd_some hf
            have hf := Option.some.inj hf
            subst hf
            exact GG.c_X2_92r C rfl (gX2_another hp30) c29 ⟨Nat.le_of_ble_eq_true rfl, Nat.le_of_ble_eq_true rfl⟩ ⟨Nat.le_of_ble_eq_true rfl, Nat.le_of_ble_eq_true rfl⟩ (Nat.le_of_ble_eq_true rfl) dX2_part_135 c31 E ⟨Nat.le_of_ble_eq_true rfl, Nat.le_of_ble_eq_true rfl⟩
        · have hf := if_t hf c28
          refine GG.aload_n C dX2_part_124 1 rfl ?_
          refine GG.lload_n C dX2_part_125 0 rfl ?_
          obtain ⟨c32, hf⟩ := gd_some hf
          obtain ⟨p33, hp33, hf⟩ := obd_some hf
          cases p33 with
          | inl p33 =>
            refine GG.c_X2_89l C rfl (gX2_aSettle hp33) c32 ⟨Nat.le_of_ble_eq_true rfl, Nat.le_of_ble_eq_true rfl⟩ ⟨Nat.le_of_ble_eq_true rfl, Nat.le_of_ble_eq_true rfl⟩ (Nat.le_of_ble_eq_true rfl) dX2_part_126 ?_
            refine GG.goto C (tgt := 138) dX2_part_129 (by decide) ?_
            refine GG.widen (cs' := 2) (sl' := 18) (Nat.le_of_ble_eq_true rfl) (Nat.le_of_ble_eq_true rfl) ?_
            refine GG.sub [1] rfl ?_
            exact gX2_part_138 C E  _ _ _ hf
          | inr p33 =>
            obtain ⟨c34, hf⟩ := gd_some hf
            have hf := Option.some.inj hf
            subst hf
            exact GG.c_X2_89r C rfl (gX2_aSettle hp33) c32 ⟨Nat.le_of_ble_eq_true rfl, Nat.le_of_ble_eq_true rfl⟩ ⟨Nat.le_of_ble_eq_true rfl, Nat.le_of_ble_eq_true rfl⟩ (Nat.le_of_ble_eq_true rfl) dX2_part_126 c34 E ⟨Nat.le_of_ble_eq_true rfl, Nat.le_of_ble_eq_true rfl⟩
      · have hf := if_t hf c27
        refine GG.aload_n C dX2_part_111 1 rfl ?_
        refine GG.lload_n C dX2_part_112 0 rfl ?_
        obtain ⟨c35, hf⟩ := gd_some hf
        obtain ⟨p36, hp36, hf⟩ := obd_some hf
        cases p36 with
        | inl p36 =>
          refine GG.c_X2_85l C rfl (gX2_aPut hp36) c35 ⟨Nat.le_of_ble_eq_true rfl, Nat.le_of_ble_eq_true rfl⟩ ⟨Nat.le_of_ble_eq_true rfl, Nat.le_of_ble_eq_true rfl⟩ (Nat.le_of_ble_eq_true rfl) dX2_part_113 ?_
          refine GG.goto C (tgt := 138) dX2_part_116 (by decide) ?_
          refine GG.widen (cs' := 2) (sl' := 18) (Nat.le_of_ble_eq_true rfl) (Nat.le_of_ble_eq_true rfl) ?_
          refine GG.sub [1] rfl ?_
          exact gX2_part_138 C E  _ _ _ hf
        | inr p36 =>
          obtain ⟨c37, hf⟩ := gd_some hf
          have hf := Option.some.inj hf
          subst hf
          exact GG.c_X2_85r C rfl (gX2_aPut hp36) c35 ⟨Nat.le_of_ble_eq_true rfl, Nat.le_of_ble_eq_true rfl⟩ ⟨Nat.le_of_ble_eq_true rfl, Nat.le_of_ble_eq_true rfl⟩ (Nat.le_of_ble_eq_true rfl) dX2_part_113 c37 E ⟨Nat.le_of_ble_eq_true rfl, Nat.le_of_ble_eq_true rfl⟩
    · have hf := if_t hf c26
      refine GG.aload_n C dX2_part_77 1 rfl ?_
      obtain ⟨c38, hf⟩ := gd_some hf
      obtain ⟨r39, hr39, hf⟩ := obd_some hf
      refine GG.gx_X2_39 C rfl c38 hr39 dX2_part_78 ?_
      obtain ⟨c40, hf⟩ := gd_some hf
      obtain ⟨r41, hr41, hf⟩ := obd_some hf
      refine GG.gx_X2_81 C rfl c40 hr41 dX2_part_81 ?_
      refine GG.aload_n C dX2_part_84 1 rfl ?_
      obtain ⟨r42, hr42, hf⟩ := obd_some hf
      refine GG.gx_X2_39 C rfl c38 hr42 dX2_part_85 ?_
      obtain ⟨c43, hf⟩ := gd_some hf
      refine GG.gx_X2_72 C rfl c43 dX2_part_88 ?_
      refine GG.lload_n C dX2_part_91 0 rfl ?_
      obtain ⟨M44, hM44, hf⟩ := obd_some hf
      refine GG.last C hM44 dX2_part_92 ?_
      refine GG.aload_n C dX2_part_93 1 rfl ?_
      obtain ⟨c45, hf⟩ := gd_some hf
      obtain ⟨r46, hr46, hf⟩ := obd_some hf
      refine GG.gx_X2_39 C rfl c45 hr46 dX2_part_94 ?_
      refine GG.dup C dX2_part_97 rfl ?_
      obtain ⟨c47, hf⟩ := gd_some hf
      refine GG.gx_X2_72 C rfl c47 dX2_part_98 ?_
      refine GG.iconst C dX2_part_101 ic_1 ?_
      refine GG.iadd C dX2_part_102 ?_
      refine GG.px_X2_72 C rfl c47 dX2_part_103 ?_
      refine GG.topM fun M48 hM48 => ?_
      have hf := ltb_s hM48 hf
      have hf := Option.some.inj hf
      subst hf
      refine GG.widen (cs' := rX2_part.cells) (sl' := rX2_part.slots) (Nat.le_of_ble_eq_true rfl) (Nat.le_of_ble_eq_true rfl) ?_
      exact GG.vretX C E dX2_part_106
  | inr p25 =>
    obtain ⟨c49, hf⟩ := gd_some hf
    have hf := Option.some.inj hf
    subst hf
    exact GG.c_X2_78r C rfl (gX2_newName hp25) c24 ⟨Nat.le_of_ble_eq_true rfl, Nat.le_of_ble_eq_true rfl⟩ ⟨Nat.le_of_ble_eq_true rfl, Nat.le_of_ble_eq_true rfl⟩ (Nat.le_of_ble_eq_true rfl) dX2_part_68 c49 E ⟨Nat.le_of_ble_eq_true rfl, Nat.le_of_ble_eq_true rfl⟩
theorem gX2_part_39 {K : gK} {X : gX} {S : Option MS} (C : gC K X cX2_part 5 yX2_part none rX2_part)  {o : (XS ⊕ (Nat × XS))} (E : gEX K X (oV o) (oVm o) S rX2_part.cells rX2_part.slots)   :
    ∀ (M : XS) (a0 : Nat) (a1 : Int32), fX2_part_39  M a0 a1 = some o → GG K X 5 0 0 M S 39 [(0, .ref a0), (1, .int a1)] [] := by
  intro M a0 a1 hf
  unfold fX2_part_39 at hf
  refine GG.iload_n C dX2_part_39 1 rfl ?_
  refine GG.iconst C dX2_part_40 ic_5 ?_
  refine GG.icmp_ge C (tgt := 63) dX2_part_41 (by decide) (fun c15 => ?_) (fun c15 => ?_)
  · have hf := if_t hf c15
    refine GG.sub [0, 1] rfl ?_
    exact gX2_part_63 C E  _ _ _ hf
  · have hf := if_f hf c15
    refine GG.aload_n C dX2_part_44 0 rfl ?_
    obtain ⟨c16, hf⟩ := gd_some hf
    obtain ⟨r17, hr17, hf⟩ := obd_some hf
    refine GG.gx_X2_39 C rfl c16 hr17 dX2_part_45 ?_
    obtain ⟨c18, hf⟩ := gd_some hf
    refine GG.gx_X2_75 C rfl c18 dX2_part_48 ?_
    refine GG.bipush C dX2_part_51 bp_16 ?_
    refine GG.icmp_ne C (tgt := 63) dX2_part_53 (by decide) (fun c19 => ?_) (fun c19 => ?_)
    · have hf := if_f hf c19
      refine GG.sub [0, 1] rfl ?_
      exact gX2_part_63 C E  _ _ _ hf
    · have hf := if_t hf c19
      refine GG.aload_n C dX2_part_56 0 rfl ?_
      refine GG.bipush C dX2_part_57 bp_6 ?_
      obtain ⟨p20, hp20, hf⟩ := obd_some hf
      refine GG.c_X2_64 C rfl (gX1_fail hp20) c16 ⟨Nat.le_of_ble_eq_true rfl, Nat.le_of_ble_eq_true rfl⟩ ⟨Nat.le_of_ble_eq_true rfl, Nat.le_of_ble_eq_true rfl⟩ (Nat.le_of_ble_eq_true rfl) dX2_part_59 ?_
      obtain ⟨c21, hf⟩ := gd_some hf
      have hf := Option.some.inj hf
      subst hf
      exact GG.athrow C E (Nat.le_of_ble_eq_true rfl) (Nat.le_of_ble_eq_true rfl) c21 dX2_part_62
theorem gX2_part_20 {K : gK} {X : gX} {S : Option MS} (C : gC K X cX2_part 5 yX2_part none rX2_part)  {o : (XS ⊕ (Nat × XS))} (E : gEX K X (oV o) (oVm o) S rX2_part.cells rX2_part.slots)   :
    ∀ (M : XS) (a0 : Nat) (a1 : Int32) (s0 : Int32) (s1 : Nat), fX2_part_20  M a0 a1 s0 s1 = some o → GG K X 5 0 0 M S 20 [(0, .ref a0), (1, .int a1)] [.int s0, .ref s1] := by
  intro M a0 a1 s0 s1 hf
  unfold fX2_part_20 at hf
  obtain ⟨c5, hf⟩ := gd_some hf
  obtain ⟨p6, hp6, hf⟩ := obd_some hf
  cases p6 with
  | inl p6 =>
    refine GG.c_X2_23l C rfl (gX1_need hp6) c5 ⟨Nat.le_of_ble_eq_true rfl, Nat.le_of_ble_eq_true rfl⟩ ⟨Nat.le_of_ble_eq_true rfl, Nat.le_of_ble_eq_true rfl⟩ (Nat.le_of_ble_eq_true rfl) dX2_part_20 ?_
    refine GG.iload_n C dX2_part_23 1 rfl ?_
    refine GG.iconst C dX2_part_24 ic_5 ?_
    refine GG.icmp_ne C (tgt := 39) dX2_part_25 (by decide) (fun c7 => ?_) (fun c7 => ?_)
    · have hf := if_f hf c7
      refine GG.sub [0, 1] rfl ?_
      exact gX2_part_39 C E  _ _ _ hf
    · have hf := if_t hf c7
      refine GG.aload_n C dX2_part_28 0 rfl ?_
      obtain ⟨c8, hf⟩ := gd_some hf
      obtain ⟨r9, hr9, hf⟩ := obd_some hf
      refine GG.gx_X2_39 C rfl c8 hr9 dX2_part_29 ?_
      obtain ⟨c10, hf⟩ := gd_some hf
      refine GG.gx_X2_72 C rfl c10 dX2_part_32 ?_
      refine GG.iconst C dX2_part_35 ic_4 ?_
      refine GG.icmp_eq C (tgt := 56) dX2_part_36 (by decide) (fun c11 => ?_) (fun c11 => ?_)
      · have hf := if_t hf c11
        refine GG.aload_n C dX2_part_56 0 rfl ?_
        refine GG.bipush C dX2_part_57 bp_6 ?_
        obtain ⟨p12, hp12, hf⟩ := obd_some hf
        refine GG.c_X2_64 C rfl (gX1_fail hp12) c8 ⟨Nat.le_of_ble_eq_true rfl, Nat.le_of_ble_eq_true rfl⟩ ⟨Nat.le_of_ble_eq_true rfl, Nat.le_of_ble_eq_true rfl⟩ (Nat.le_of_ble_eq_true rfl) dX2_part_59 ?_
        obtain ⟨c13, hf⟩ := gd_some hf
        have hf := Option.some.inj hf
        subst hf
        exact GG.athrow C E (Nat.le_of_ble_eq_true rfl) (Nat.le_of_ble_eq_true rfl) c13 dX2_part_62
      · have hf := if_f hf c11
        refine GG.sub [0, 1] rfl ?_
        exact gX2_part_39 C E  _ _ _ hf
  | inr p6 =>
    obtain ⟨c14, hf⟩ := gd_some hf
    have hf := Option.some.inj hf
    subst hf
    exact GG.c_X2_23r C rfl (gX1_need hp6) c5 ⟨Nat.le_of_ble_eq_true rfl, Nat.le_of_ble_eq_true rfl⟩ ⟨Nat.le_of_ble_eq_true rfl, Nat.le_of_ble_eq_true rfl⟩ (Nat.le_of_ble_eq_true rfl) dX2_part_20 c14 E ⟨Nat.le_of_ble_eq_true rfl, Nat.le_of_ble_eq_true rfl⟩
theorem gX2_part {K : gK} {S : Option MS}  {M : XS} {a0 : Nat} {o : (XS ⊕ (Nat × XS))} (hf : fX2_part M a0 = some o) : gMetX K yX2_part cX2_part 5 none rX2_part [(.ref a0)] M S (oV o) (oVm o) S := by
  refine gMetX.of pn_X2 (Nat.le_of_ble_eq_true rfl) fun X C E => ?_
  unfold fX2_part at hf
  show GG K X 5 0 0 M S 0 [(0, .ref a0)] []
  refine GG.aload_n C dX2_part_0 0 rfl ?_
  obtain ⟨c1, hf⟩ := gd_some hf
  obtain ⟨v2, hv2, hf⟩ := obd_some hf
  refine GG.c_X2_19 C rfl (gX1_key hv2) c1 ⟨Nat.le_of_ble_eq_true rfl, Nat.le_of_ble_eq_true rfl⟩ ⟨Nat.le_of_ble_eq_true rfl, Nat.le_of_ble_eq_true rfl⟩ (Nat.le_of_ble_eq_true rfl) dX2_part_1 ?_
  refine GG.istore_n C (lv' := [(1, .int v2), (0, .ref a0)]) dX2_part_4 (by decide) rfl ?_
  refine GG.aload_n C dX2_part_5 1 rfl ?_
  refine GG.iload_n C dX2_part_6 0 rfl ?_
  refine GG.if_lt C (tgt := 19) dX2_part_7 (by decide) (fun c3 => ?_) (fun c3 => ?_)
  · have hf := if_t hf c3
    refine GG.iconst C dX2_part_19 ic_0 ?_
    refine GG.sub [1, 0] rfl ?_
    exact gX2_part_20 C E  _ _ _ _ _ hf
  · have hf := if_f hf c3
    refine GG.iload_n C dX2_part_10 0 rfl ?_
    refine GG.iconst C dX2_part_11 ic_5 ?_
    refine GG.icmp_gt C (tgt := 19) dX2_part_12 (by decide) (fun c4 => ?_) (fun c4 => ?_)
    · have hf := if_t hf c4
      refine GG.iconst C dX2_part_19 ic_0 ?_
      refine GG.sub [1, 0] rfl ?_
      exact gX2_part_20 C E  _ _ _ _ _ hf
    · have hf := if_f hf c4
      refine GG.iconst C dX2_part_15 ic_1 ?_
      refine GG.goto C (tgt := 20) dX2_part_16 (by decide) ?_
      refine GG.sub [1, 0] rfl ?_
      exact gX2_part_20 C E  _ _ _ _ _ hf
theorem gX2_passedChange {K : gK} {S : Option MS}  {M : XS} {a0 : Nat} {o : ((Int32 × XS) ⊕ (Nat × XS))} (hf : fX2_passedChange M a0 = some o) : gMetX K yX2_passedChange cX2_passedChange 2 (some Jvm.ClassFile.FieldType.int) rX2_passedChange [(.ref a0)] M S (oI o) (oIm o) S := by
  refine gMetX.of pn_X2 (Nat.le_of_ble_eq_true rfl) fun X C E => ?_
  unfold fX2_passedChange at hf
  show GG K X 2 0 0 M S 0 [(0, .ref a0)] []
  refine GG.aload_n C dX2_passedChange_0 0 rfl ?_
  obtain ⟨c1, hf⟩ := gd_some hf
  obtain ⟨p2, hp2, hf⟩ := obd_some hf
  cases p2 with
  | inl p2 =>
    refine GG.c_X2_127l C rfl (gX2_aChange hp2) c1 ⟨Nat.le_of_ble_eq_true rfl, Nat.le_of_ble_eq_true rfl⟩ ⟨Nat.le_of_ble_eq_true rfl, Nat.le_of_ble_eq_true rfl⟩ (Nat.le_of_ble_eq_true rfl) dX2_passedChange_1 ?_
    refine GG.istore_n C (lv' := [(1, .int p2.1), (0, .ref a0)]) dX2_passedChange_4 (by decide) rfl ?_
    refine GG.aload_n C dX2_passedChange_5 1 rfl ?_
    obtain ⟨c3, hf⟩ := gd_some hf
    obtain ⟨p4, hp4, hf⟩ := obd_some hf
    refine GG.c_X2_27 C rfl (gX1_next hp4) c3 ⟨Nat.le_of_ble_eq_true rfl, Nat.le_of_ble_eq_true rfl⟩ ⟨Nat.le_of_ble_eq_true rfl, Nat.le_of_ble_eq_true rfl⟩ (Nat.le_of_ble_eq_true rfl) dX2_passedChange_6 ?_
    refine GG.iload_n C dX2_passedChange_9 0 rfl ?_
    have hf := Option.some.inj hf
    subst hf
    exact GG.iretX C E dX2_passedChange_10
  | inr p2 =>
    obtain ⟨c5, hf⟩ := gd_some hf
    have hf := Option.some.inj hf
    subst hf
    exact GG.c_X2_127r C rfl (gX2_aChange hp2) c1 ⟨Nat.le_of_ble_eq_true rfl, Nat.le_of_ble_eq_true rfl⟩ ⟨Nat.le_of_ble_eq_true rfl, Nat.le_of_ble_eq_true rfl⟩ (Nat.le_of_ble_eq_true rfl) dX2_passedChange_1 c5 E ⟨Nat.le_of_ble_eq_true rfl, Nat.le_of_ble_eq_true rfl⟩
theorem gX2_anIsland {K : gK} {S : Option MS}  {M : XS} {a0 : Nat} {o : ((Int32 × XS) ⊕ (Nat × XS))} (hf : fX2_anIsland M a0 = some o) : gMetX K yX2_anIsland cX2_anIsland 2 (some Jvm.ClassFile.FieldType.int) rX2_anIsland [(.ref a0)] M S (oI o) (oIm o) S := by
  refine gMetX.of pn_X2 (Nat.le_of_ble_eq_true rfl) fun X C E => ?_
  unfold fX2_anIsland at hf
  show GG K X 2 0 0 M S 0 [(0, .ref a0)] []
  refine GG.aload_n C dX2_anIsland_0 0 rfl ?_
  obtain ⟨c1, hf⟩ := gd_some hf
  obtain ⟨r2, hr2, hf⟩ := obd_some hf
  refine GG.gx_X2_39 C rfl c1 hr2 dX2_anIsland_1 ?_
  refine GG.aload_n C dX2_anIsland_4 0 rfl ?_
  obtain ⟨p3, hp3, hf⟩ := obd_some hf
  cases p3 with
  | inl p3 =>
    refine GG.c_X2_53l C rfl (gX1_name hp3) c1 ⟨Nat.le_of_ble_eq_true rfl, Nat.le_of_ble_eq_true rfl⟩ ⟨Nat.le_of_ble_eq_true rfl, Nat.le_of_ble_eq_true rfl⟩ (Nat.le_of_ble_eq_true rfl) dX2_anIsland_5 ?_
    obtain ⟨c4, hf⟩ := gd_some hf
    obtain ⟨v5, hv5, hf⟩ := obd_some hf
    refine GG.c_X2_61 C rfl (gX4_island hv5) c4 ⟨Nat.le_of_ble_eq_true rfl, Nat.le_of_ble_eq_true rfl⟩ ⟨Nat.le_of_ble_eq_true rfl, Nat.le_of_ble_eq_true rfl⟩ (Nat.le_of_ble_eq_true rfl) dX2_anIsland_8 ?_
    refine GG.istore_n C (lv' := [(1, .int v5), (0, .ref a0)]) dX2_anIsland_11 (by decide) rfl ?_
    refine GG.iload_n C dX2_anIsland_12 0 rfl ?_
    refine GG.iconst C dX2_anIsland_13 ic_m1 ?_
    refine GG.icmp_ne C (tgt := 23) dX2_anIsland_14 (by decide) (fun c6 => ?_) (fun c6 => ?_)
    · have hf := if_f hf c6
      refine GG.aload_n C dX2_anIsland_23 1 rfl ?_
      obtain ⟨c7, hf⟩ := gd_some hf
      obtain ⟨p8, hp8, hf⟩ := obd_some hf
      refine GG.c_X2_27 C rfl (gX1_next hp8) c7 ⟨Nat.le_of_ble_eq_true rfl, Nat.le_of_ble_eq_true rfl⟩ ⟨Nat.le_of_ble_eq_true rfl, Nat.le_of_ble_eq_true rfl⟩ (Nat.le_of_ble_eq_true rfl) dX2_anIsland_24 ?_
      refine GG.iload_n C dX2_anIsland_27 0 rfl ?_
      have hf := Option.some.inj hf
      subst hf
      exact GG.iretX C E dX2_anIsland_28
    · have hf := if_t hf c6
      refine GG.aload_n C dX2_anIsland_17 1 rfl ?_
      refine GG.iconst C dX2_anIsland_18 ic_3 ?_
      obtain ⟨c9, hf⟩ := gd_some hf
      obtain ⟨p10, hp10, hf⟩ := obd_some hf
      refine GG.c_X2_64 C rfl (gX1_fail hp10) c9 ⟨Nat.le_of_ble_eq_true rfl, Nat.le_of_ble_eq_true rfl⟩ ⟨Nat.le_of_ble_eq_true rfl, Nat.le_of_ble_eq_true rfl⟩ (Nat.le_of_ble_eq_true rfl) dX2_anIsland_19 ?_
      obtain ⟨c11, hf⟩ := gd_some hf
      have hf := Option.some.inj hf
      subst hf
      exact GG.athrow C E (Nat.le_of_ble_eq_true rfl) (Nat.le_of_ble_eq_true rfl) c11 dX2_anIsland_22
  | inr p3 =>
    obtain ⟨c12, hf⟩ := gd_some hf
    have hf := Option.some.inj hf
    subst hf
    exact GG.c_X2_53r C rfl (gX1_name hp3) c1 ⟨Nat.le_of_ble_eq_true rfl, Nat.le_of_ble_eq_true rfl⟩ ⟨Nat.le_of_ble_eq_true rfl, Nat.le_of_ble_eq_true rfl⟩ (Nat.le_of_ble_eq_true rfl) dX2_anIsland_5 c12 E ⟨Nat.le_of_ble_eq_true rfl, Nat.le_of_ble_eq_true rfl⟩
theorem gX2_ship {K : gK} {S : Option MS}  {M : XS} {a0 : Nat} {a1 : Nat} {o : (XS ⊕ (Nat × XS))} (hf : fX2_ship M a0 a1 = some o) : gMetX K yX2_ship cX2_ship 2 none rX2_ship [(.ref a0), (.ref a1)] M S (oV o) (oVm o) S := by
  refine gMetX.of pn_X2 (Nat.le_of_ble_eq_true rfl) fun X C E => ?_
  unfold fX2_ship at hf
  show GG K X 2 0 0 M S 0 [(0, .ref a0), (1, .ref a1)] []
  refine GG.aload_n C dX2_ship_0 1 rfl ?_
  refine GG.aload_n C dX2_ship_1 0 rfl ?_
  obtain ⟨c1, hf⟩ := gd_some hf
  obtain ⟨p2, hp2, hf⟩ := obd_some hf
  cases p2 with
  | inl p2 =>
    refine GG.c_X2_194l C rfl (gX2_anIsland hp2) c1 ⟨Nat.le_of_ble_eq_true rfl, Nat.le_of_ble_eq_true rfl⟩ ⟨Nat.le_of_ble_eq_true rfl, Nat.le_of_ble_eq_true rfl⟩ (Nat.le_of_ble_eq_true rfl) dX2_ship_2 ?_
    obtain ⟨c3, hf⟩ := gd_some hf
    refine GG.px_X2_203 C rfl c3 dX2_ship_5 ?_
    refine GG.topM fun M4 hM4 => ?_
    have hf := ltb_s hM4 hf
    refine GG.aload_n C dX2_ship_8 0 rfl ?_
    refine GG.bipush C dX2_ship_9 bp_22 ?_
    obtain ⟨c5, hf⟩ := gd_some hf
    obtain ⟨p6, hp6, hf⟩ := obd_some hf
    cases p6 with
    | inl p6 =>
      refine GG.c_X2_108l C rfl (gX2_word hp6) c5 ⟨Nat.le_of_ble_eq_true rfl, Nat.le_of_ble_eq_true rfl⟩ ⟨Nat.le_of_ble_eq_true rfl, Nat.le_of_ble_eq_true rfl⟩ (Nat.le_of_ble_eq_true rfl) dX2_ship_11 ?_
      refine GG.aload_n C dX2_ship_14 1 rfl ?_
      refine GG.aload_n C dX2_ship_15 0 rfl ?_
      obtain ⟨c7, hf⟩ := gd_some hf
      obtain ⟨p8, hp8, hf⟩ := obd_some hf
      cases p8 with
      | inl p8 =>
        refine GG.c_X2_194l C rfl (gX2_anIsland hp8) c7 ⟨Nat.le_of_ble_eq_true rfl, Nat.le_of_ble_eq_true rfl⟩ ⟨Nat.le_of_ble_eq_true rfl, Nat.le_of_ble_eq_true rfl⟩ (Nat.le_of_ble_eq_true rfl) dX2_ship_16 ?_
        obtain ⟨c9, hf⟩ := gd_some hf
        refine GG.px_X2_197 C rfl c9 dX2_ship_19 ?_
        refine GG.topM fun M10 hM10 => ?_
        have hf := ltb_s hM10 hf
        refine GG.aload_n C dX2_ship_22 0 rfl ?_
        obtain ⟨c11, hf⟩ := gd_some hf
        obtain ⟨v12, hv12, hf⟩ := obd_some hf
        refine GG.c_X2_19 C rfl (gX1_key hv12) c11 ⟨Nat.le_of_ble_eq_true rfl, Nat.le_of_ble_eq_true rfl⟩ ⟨Nat.le_of_ble_eq_true rfl, Nat.le_of_ble_eq_true rfl⟩ (Nat.le_of_ble_eq_true rfl) dX2_ship_23 ?_
        refine GG.bipush C dX2_ship_26 bp_23 ?_
        refine GG.icmp_ne C (tgt := 46) dX2_ship_28 (by decide) (fun c13 => ?_) (fun c13 => ?_)
        · have hf := if_f hf c13
          refine GG.aload_n C dX2_ship_46 0 rfl ?_
          obtain ⟨v14, hv14, hf⟩ := obd_some hf
          refine GG.c_X2_19 C rfl (gX1_key hv14) c11 ⟨Nat.le_of_ble_eq_true rfl, Nat.le_of_ble_eq_true rfl⟩ ⟨Nat.le_of_ble_eq_true rfl, Nat.le_of_ble_eq_true rfl⟩ (Nat.le_of_ble_eq_true rfl) dX2_ship_47 ?_
          refine GG.bipush C dX2_ship_50 bp_24 ?_
          refine GG.icmp_ne C (tgt := 64) dX2_ship_52 (by decide) (fun c15 => ?_) (fun c15 => ?_)
          · have hf := if_f hf c15
            have hf := Option.some.inj hf
            subst hf
            exact GG.vretX C E dX2_ship_64
          · have hf := if_t hf c15
            refine GG.aload_n C dX2_ship_55 1 rfl ?_
            refine GG.iconst C dX2_ship_56 ic_1 ?_
            obtain ⟨c16, hf⟩ := gd_some hf
            refine GG.px_X2_209 C rfl c16 (by decide) (by decide) dX2_ship_57 ?_
            refine GG.topM fun M17 hM17 => ?_
            have hf := ltb_s hM17 hf
            refine GG.aload_n C dX2_ship_60 0 rfl ?_
            obtain ⟨c18, hf⟩ := gd_some hf
            obtain ⟨p19, hp19, hf⟩ := obd_some hf
            refine GG.c_X2_27 C rfl (gX1_next hp19) c18 ⟨Nat.le_of_ble_eq_true rfl, Nat.le_of_ble_eq_true rfl⟩ ⟨Nat.le_of_ble_eq_true rfl, Nat.le_of_ble_eq_true rfl⟩ (Nat.le_of_ble_eq_true rfl) dX2_ship_61 ?_
            have hf := Option.some.inj hf
            subst hf
            exact GG.vretX C E dX2_ship_64
        · have hf := if_t hf c13
          refine GG.aload_n C dX2_ship_31 0 rfl ?_
          obtain ⟨p20, hp20, hf⟩ := obd_some hf
          refine GG.c_X2_27 C rfl (gX1_next hp20) c11 ⟨Nat.le_of_ble_eq_true rfl, Nat.le_of_ble_eq_true rfl⟩ ⟨Nat.le_of_ble_eq_true rfl, Nat.le_of_ble_eq_true rfl⟩ (Nat.le_of_ble_eq_true rfl) dX2_ship_32 ?_
          refine GG.aload_n C dX2_ship_35 1 rfl ?_
          refine GG.aload_n C dX2_ship_36 0 rfl ?_
          refine GG.iconst C dX2_ship_37 ic_0 ?_
          refine GG.bipush C dX2_ship_38 bp_9 ?_
          obtain ⟨c21, hf⟩ := gd_some hf
          obtain ⟨p22, hp22, hf⟩ := obd_some hf
          cases p22 with
          | inl p22 =>
            refine GG.c_X2_68l C rfl (gX1_passed hp22) c21 ⟨Nat.le_of_ble_eq_true rfl, Nat.le_of_ble_eq_true rfl⟩ ⟨Nat.le_of_ble_eq_true rfl, Nat.le_of_ble_eq_true rfl⟩ (Nat.le_of_ble_eq_true rfl) dX2_ship_40 ?_
            obtain ⟨c23, hf⟩ := gd_some hf
            refine GG.px_X2_206 C rfl c23 dX2_ship_43 ?_
            refine GG.topM fun M24 hM24 => ?_
            have hf := ltb_s hM24 hf
            refine GG.aload_n C dX2_ship_46 0 rfl ?_
            obtain ⟨c25, hf⟩ := gd_some hf
            obtain ⟨v26, hv26, hf⟩ := obd_some hf
            refine GG.c_X2_19 C rfl (gX1_key hv26) c25 ⟨Nat.le_of_ble_eq_true rfl, Nat.le_of_ble_eq_true rfl⟩ ⟨Nat.le_of_ble_eq_true rfl, Nat.le_of_ble_eq_true rfl⟩ (Nat.le_of_ble_eq_true rfl) dX2_ship_47 ?_
            refine GG.bipush C dX2_ship_50 bp_24 ?_
            refine GG.icmp_ne C (tgt := 64) dX2_ship_52 (by decide) (fun c27 => ?_) (fun c27 => ?_)
            · have hf := if_f hf c27
              have hf := Option.some.inj hf
              subst hf
              exact GG.vretX C E dX2_ship_64
            · have hf := if_t hf c27
              refine GG.aload_n C dX2_ship_55 1 rfl ?_
              refine GG.iconst C dX2_ship_56 ic_1 ?_
              obtain ⟨c28, hf⟩ := gd_some hf
              refine GG.px_X2_209 C rfl c28 (by decide) (by decide) dX2_ship_57 ?_
              refine GG.topM fun M29 hM29 => ?_
              have hf := ltb_s hM29 hf
              refine GG.aload_n C dX2_ship_60 0 rfl ?_
              obtain ⟨c30, hf⟩ := gd_some hf
              obtain ⟨p31, hp31, hf⟩ := obd_some hf
              refine GG.c_X2_27 C rfl (gX1_next hp31) c30 ⟨Nat.le_of_ble_eq_true rfl, Nat.le_of_ble_eq_true rfl⟩ ⟨Nat.le_of_ble_eq_true rfl, Nat.le_of_ble_eq_true rfl⟩ (Nat.le_of_ble_eq_true rfl) dX2_ship_61 ?_
              have hf := Option.some.inj hf
              subst hf
              exact GG.vretX C E dX2_ship_64
          | inr p22 =>
            obtain ⟨c32, hf⟩ := gd_some hf
            have hf := Option.some.inj hf
            subst hf
            exact GG.c_X2_68r C rfl (gX1_passed hp22) c21 ⟨Nat.le_of_ble_eq_true rfl, Nat.le_of_ble_eq_true rfl⟩ ⟨Nat.le_of_ble_eq_true rfl, Nat.le_of_ble_eq_true rfl⟩ (Nat.le_of_ble_eq_true rfl) dX2_ship_40 c32 E ⟨Nat.le_of_ble_eq_true rfl, Nat.le_of_ble_eq_true rfl⟩
      | inr p8 =>
        obtain ⟨c33, hf⟩ := gd_some hf
        have hf := Option.some.inj hf
        subst hf
        exact GG.c_X2_194r C rfl (gX2_anIsland hp8) c7 ⟨Nat.le_of_ble_eq_true rfl, Nat.le_of_ble_eq_true rfl⟩ ⟨Nat.le_of_ble_eq_true rfl, Nat.le_of_ble_eq_true rfl⟩ (Nat.le_of_ble_eq_true rfl) dX2_ship_16 c33 E ⟨Nat.le_of_ble_eq_true rfl, Nat.le_of_ble_eq_true rfl⟩
    | inr p6 =>
      obtain ⟨c34, hf⟩ := gd_some hf
      have hf := Option.some.inj hf
      subst hf
      exact GG.c_X2_108r C rfl (gX2_word hp6) c5 ⟨Nat.le_of_ble_eq_true rfl, Nat.le_of_ble_eq_true rfl⟩ ⟨Nat.le_of_ble_eq_true rfl, Nat.le_of_ble_eq_true rfl⟩ (Nat.le_of_ble_eq_true rfl) dX2_ship_11 c34 E ⟨Nat.le_of_ble_eq_true rfl, Nat.le_of_ble_eq_true rfl⟩
  | inr p2 =>
    obtain ⟨c35, hf⟩ := gd_some hf
    have hf := Option.some.inj hf
    subst hf
    exact GG.c_X2_194r C rfl (gX2_anIsland hp2) c1 ⟨Nat.le_of_ble_eq_true rfl, Nat.le_of_ble_eq_true rfl⟩ ⟨Nat.le_of_ble_eq_true rfl, Nat.le_of_ble_eq_true rfl⟩ (Nat.le_of_ble_eq_true rfl) dX2_ship_2 c35 E ⟨Nat.le_of_ble_eq_true rfl, Nat.le_of_ble_eq_true rfl⟩
theorem gX2_test_32 {K : gK} {X : gX} {S : Option MS} (C : gC K X cX2_test 2 yX2_test none rX2_test)  {o : (XS ⊕ (Nat × XS))} (E : gEX K X (oV o) (oVm o) S rX2_test.cells rX2_test.slots)   :
    ∀ (M : XS) (a0 : Nat) (a1 : Nat) (s0 : Int32) (s1 : Nat), fX2_test_32  M a0 a1 s0 s1 = some o → GG K X 2 0 0 M S 32 [(0, .ref a0), (1, .ref a1)] [.int s0, .ref s1] := by
  intro M a0 a1 s0 s1 hf
  unfold fX2_test_32 at hf
  obtain ⟨c8, hf⟩ := gd_some hf
  obtain ⟨p9, hp9, hf⟩ := obd_some hf
  cases p9 with
  | inl p9 =>
    refine GG.c_X2_23l C rfl (gX1_need hp9) c8 ⟨Nat.le_of_ble_eq_true rfl, Nat.le_of_ble_eq_true rfl⟩ ⟨Nat.le_of_ble_eq_true rfl, Nat.le_of_ble_eq_true rfl⟩ (Nat.le_of_ble_eq_true rfl) dX2_test_32 ?_
    refine GG.aload_n C dX2_test_35 0 rfl ?_
    obtain ⟨c10, hf⟩ := gd_some hf
    obtain ⟨p11, hp11, hf⟩ := obd_some hf
    refine GG.c_X2_27 C rfl (gX1_next hp11) c10 ⟨Nat.le_of_ble_eq_true rfl, Nat.le_of_ble_eq_true rfl⟩ ⟨Nat.le_of_ble_eq_true rfl, Nat.le_of_ble_eq_true rfl⟩ (Nat.le_of_ble_eq_true rfl) dX2_test_36 ?_
    refine GG.aload_n C dX2_test_39 1 rfl ?_
    obtain ⟨c12, hf⟩ := gd_some hf
    refine GG.gx_X2_188 C rfl c12 dX2_test_40 ?_
    refine GG.bipush C dX2_test_43 bp_27 ?_
    refine GG.icmp_ne C (tgt := 61) dX2_test_45 (by decide) (fun c13 => ?_) (fun c13 => ?_)
    · have hf := if_f hf c13
      refine GG.aload_n C dX2_test_61 1 rfl ?_
      refine GG.aload_n C dX2_test_62 0 rfl ?_
      obtain ⟨c14, hf⟩ := gd_some hf
      obtain ⟨p15, hp15, hf⟩ := obd_some hf
      cases p15 with
      | inl p15 =>
        refine GG.c_X2_194l C rfl (gX2_anIsland hp15) c14 ⟨Nat.le_of_ble_eq_true rfl, Nat.le_of_ble_eq_true rfl⟩ ⟨Nat.le_of_ble_eq_true rfl, Nat.le_of_ble_eq_true rfl⟩ (Nat.le_of_ble_eq_true rfl) dX2_test_63 ?_
        obtain ⟨c16, hf⟩ := gd_some hf
        refine GG.px_X2_197 C rfl c16 dX2_test_66 ?_
        refine GG.topM fun M17 hM17 => ?_
        have hf := ltb_s hM17 hf
        refine GG.aload_n C dX2_test_69 1 rfl ?_
        obtain ⟨c18, hf⟩ := gd_some hf
        refine GG.gx_X2_188 C rfl c18 dX2_test_70 ?_
        refine GG.bipush C dX2_test_73 bp_25 ?_
        refine GG.icmp_ne C (tgt := 86) dX2_test_75 (by decide) (fun c19 => ?_) (fun c19 => ?_)
        · have hf := if_f hf c19
          have hf := Option.some.inj hf
          subst hf
          exact GG.vretX C E dX2_test_86
        · have hf := if_t hf c19
          refine GG.aload_n C dX2_test_78 1 rfl ?_
          refine GG.aload_n C dX2_test_79 0 rfl ?_
          obtain ⟨c20, hf⟩ := gd_some hf
          obtain ⟨p21, hp21, hf⟩ := obd_some hf
          cases p21 with
          | inl p21 =>
            refine GG.c_X2_200l C rfl (gX2_passedChange hp21) c20 ⟨Nat.le_of_ble_eq_true rfl, Nat.le_of_ble_eq_true rfl⟩ ⟨Nat.le_of_ble_eq_true rfl, Nat.le_of_ble_eq_true rfl⟩ (Nat.le_of_ble_eq_true rfl) dX2_test_80 ?_
            obtain ⟨c22, hf⟩ := gd_some hf
            refine GG.px_X2_203 C rfl c22 dX2_test_83 ?_
            refine GG.topM fun M23 hM23 => ?_
            have hf := ltb_s hM23 hf
            have hf := Option.some.inj hf
            subst hf
            exact GG.vretX C E dX2_test_86
          | inr p21 =>
            obtain ⟨c24, hf⟩ := gd_some hf
            have hf := Option.some.inj hf
            subst hf
            exact GG.c_X2_200r C rfl (gX2_passedChange hp21) c20 ⟨Nat.le_of_ble_eq_true rfl, Nat.le_of_ble_eq_true rfl⟩ ⟨Nat.le_of_ble_eq_true rfl, Nat.le_of_ble_eq_true rfl⟩ (Nat.le_of_ble_eq_true rfl) dX2_test_80 c24 E ⟨Nat.le_of_ble_eq_true rfl, Nat.le_of_ble_eq_true rfl⟩
      | inr p15 =>
        obtain ⟨c25, hf⟩ := gd_some hf
        have hf := Option.some.inj hf
        subst hf
        exact GG.c_X2_194r C rfl (gX2_anIsland hp15) c14 ⟨Nat.le_of_ble_eq_true rfl, Nat.le_of_ble_eq_true rfl⟩ ⟨Nat.le_of_ble_eq_true rfl, Nat.le_of_ble_eq_true rfl⟩ (Nat.le_of_ble_eq_true rfl) dX2_test_63 c25 E ⟨Nat.le_of_ble_eq_true rfl, Nat.le_of_ble_eq_true rfl⟩
    · have hf := if_t hf c13
      refine GG.aload_n C dX2_test_48 1 rfl ?_
      refine GG.aload_n C dX2_test_49 0 rfl ?_
      refine GG.iconst C dX2_test_50 ic_0 ?_
      refine GG.sipush C dX2_test_51 sp_999 ?_
      obtain ⟨c26, hf⟩ := gd_some hf
      obtain ⟨p27, hp27, hf⟩ := obd_some hf
      cases p27 with
      | inl p27 =>
        refine GG.c_X2_68l C rfl (gX1_passed hp27) c26 ⟨Nat.le_of_ble_eq_true rfl, Nat.le_of_ble_eq_true rfl⟩ ⟨Nat.le_of_ble_eq_true rfl, Nat.le_of_ble_eq_true rfl⟩ (Nat.le_of_ble_eq_true rfl) dX2_test_54 ?_
        obtain ⟨c28, hf⟩ := gd_some hf
        refine GG.px_X2_191 C rfl c28 dX2_test_57 ?_
        refine GG.topM fun M29 hM29 => ?_
        have hf := ltb_s hM29 hf
        have hf := Option.some.inj hf
        subst hf
        exact GG.vretX C E dX2_test_60
      | inr p27 =>
        obtain ⟨c30, hf⟩ := gd_some hf
        have hf := Option.some.inj hf
        subst hf
        exact GG.c_X2_68r C rfl (gX1_passed hp27) c26 ⟨Nat.le_of_ble_eq_true rfl, Nat.le_of_ble_eq_true rfl⟩ ⟨Nat.le_of_ble_eq_true rfl, Nat.le_of_ble_eq_true rfl⟩ (Nat.le_of_ble_eq_true rfl) dX2_test_54 c30 E ⟨Nat.le_of_ble_eq_true rfl, Nat.le_of_ble_eq_true rfl⟩
  | inr p9 =>
    obtain ⟨c31, hf⟩ := gd_some hf
    have hf := Option.some.inj hf
    subst hf
    exact GG.c_X2_23r C rfl (gX1_need hp9) c8 ⟨Nat.le_of_ble_eq_true rfl, Nat.le_of_ble_eq_true rfl⟩ ⟨Nat.le_of_ble_eq_true rfl, Nat.le_of_ble_eq_true rfl⟩ (Nat.le_of_ble_eq_true rfl) dX2_test_32 c31 E ⟨Nat.le_of_ble_eq_true rfl, Nat.le_of_ble_eq_true rfl⟩
theorem gX2_test {K : gK} {S : Option MS}  {M : XS} {a0 : Nat} {a1 : Nat} {o : (XS ⊕ (Nat × XS))} (hf : fX2_test M a0 a1 = some o) : gMetX K yX2_test cX2_test 2 none rX2_test [(.ref a0), (.ref a1)] M S (oV o) (oVm o) S := by
  refine gMetX.of pn_X2 (Nat.le_of_ble_eq_true rfl) fun X C E => ?_
  unfold fX2_test at hf
  show GG K X 2 0 0 M S 0 [(0, .ref a0), (1, .ref a1)] []
  refine GG.aload_n C dX2_test_0 1 rfl ?_
  refine GG.aload_n C dX2_test_1 0 rfl ?_
  obtain ⟨c1, hf⟩ := gd_some hf
  obtain ⟨v2, hv2, hf⟩ := obd_some hf
  refine GG.c_X2_19 C rfl (gX1_key hv2) c1 ⟨Nat.le_of_ble_eq_true rfl, Nat.le_of_ble_eq_true rfl⟩ ⟨Nat.le_of_ble_eq_true rfl, Nat.le_of_ble_eq_true rfl⟩ (Nat.le_of_ble_eq_true rfl) dX2_test_2 ?_
  obtain ⟨c3, hf⟩ := gd_some hf
  refine GG.px_X2_188 C rfl c3 dX2_test_5 ?_
  refine GG.topM fun M4 hM4 => ?_
  have hf := ltb_s hM4 hf
  refine GG.aload_n C dX2_test_8 0 rfl ?_
  refine GG.aload_n C dX2_test_9 1 rfl ?_
  obtain ⟨c5, hf⟩ := gd_some hf
  refine GG.gx_X2_188 C rfl c5 dX2_test_10 ?_
  refine GG.bipush C dX2_test_13 bp_25 ?_
  refine GG.icmp_lt C (tgt := 31) dX2_test_15 (by decide) (fun c6 => ?_) (fun c6 => ?_)
  · have hf := if_t hf c6
    refine GG.iconst C dX2_test_31 ic_0 ?_
    refine GG.sub [0, 1] rfl ?_
    exact gX2_test_32 C E  _ _ _ _ _ hf
  · have hf := if_f hf c6
    refine GG.aload_n C dX2_test_18 1 rfl ?_
    refine GG.gx_X2_188 C rfl c5 dX2_test_19 ?_
    refine GG.bipush C dX2_test_22 bp_27 ?_
    refine GG.icmp_gt C (tgt := 31) dX2_test_24 (by decide) (fun c7 => ?_) (fun c7 => ?_)
    · have hf := if_t hf c7
      refine GG.iconst C dX2_test_31 ic_0 ?_
      refine GG.sub [0, 1] rfl ?_
      exact gX2_test_32 C E  _ _ _ _ _ hf
    · have hf := if_f hf c7
      refine GG.iconst C dX2_test_27 ic_1 ?_
      refine GG.goto C (tgt := 32) dX2_test_28 (by decide) ?_
      refine GG.sub [0, 1] rfl ?_
      exact gX2_test_32 C E  _ _ _ _ _ hf
theorem gX2_step_326 {K : gK} {X : gX} {S : Option MS} (C : gC K X cX2_step 4 yX2_step none rX2_step)  {o : (XS ⊕ (Nat × XS))} (E : gEX K X (oV o) (oVm o) S rX2_step.cells rX2_step.slots)   :
    ∀ (M : XS) (a0 : Nat) (a3 : Nat) (s0 : Int32) (s1 : Int32) (s2 : Nat), fX2_step_326  M a0 a3 s0 s1 s2 = some o → GG K X 4 1 9 M S 326 [(0, .ref a0), (3, .ref a3)] [.int s0, .int s1, .ref s2] := by
  intro M a0 a3 s0 s1 s2 hf
  unfold fX2_step_326 at hf
  refine GG.iadd C dX2_step_326 ?_
  obtain ⟨c86, hf⟩ := gd_some hf
  refine GG.px_X2_179 C rfl c86 dX2_step_327 ?_
  refine GG.topM fun M87 hM87 => ?_
  have hf := ltb_s hM87 hf
  refine GG.aload_n C dX2_step_330 0 rfl ?_
  obtain ⟨c88, hf⟩ := gd_some hf
  obtain ⟨r89, hr89, hf⟩ := obd_some hf
  refine GG.gx_X2_172 C rfl c88 hr89 dX2_step_331 ?_
  refine GG.aload_n C dX2_step_334 0 rfl ?_
  refine GG.gx_X2_176 C rfl c88 dX2_step_335 ?_
  refine GG.aload_n C dX2_step_338 1 rfl ?_
  obtain ⟨c90, hf⟩ := gd_some hf
  obtain ⟨M91, hM91, hf⟩ := obd_some hf
  refine GG.aast C 2 (r := (RX12, TX12, 9)) hM91 rfl (fun _ _ _ => rfl) (by decide) c90 rfl (fun comp c0 e1 e2 => vb_asgS comp c0 e1 e2) dX2_step_339 ?_
  refine GG.aload_n C dX2_step_340 0 rfl ?_
  refine GG.dup C dX2_step_341 rfl ?_
  obtain ⟨c92, hf⟩ := gd_some hf
  refine GG.gx_X2_176 C rfl c92 dX2_step_342 ?_
  refine GG.iconst C dX2_step_345 ic_1 ?_
  refine GG.iadd C dX2_step_346 ?_
  refine GG.px_X2_176 C rfl c92 dX2_step_347 ?_
  refine GG.topM fun M93 hM93 => ?_
  have hf := ltb_s hM93 hf
  have hf := Option.some.inj hf
  subst hf
  refine GG.widen (cs' := rX2_step.cells) (sl' := rX2_step.slots) (Nat.le_of_ble_eq_true rfl) (Nat.le_of_ble_eq_true rfl) ?_
  exact GG.vretX C E dX2_step_350
theorem gX2_step_279 {K : gK} {X : gX} {S : Option MS} (C : gC K X cX2_step 4 yX2_step none rX2_step)  {o : (XS ⊕ (Nat × XS))} (E : gEX K X (oV o) (oVm o) S rX2_step.cells rX2_step.slots)   :
    ∀ (M : XS) (a0 : Nat) (a1 : Int32) (a2 : Int32) (a3 : Nat), fX2_step_279  M a0 a1 a2 a3 = some o → GG K X 4 1 9 M S 279 [(0, .ref a0), (1, .int a1), (2, .int a2), (3, .ref a3)] [] := by
  intro M a0 a1 a2 a3 hf
  unfold fX2_step_279 at hf
  refine GG.aload_n C dX2_step_279 0 rfl ?_
  obtain ⟨c73, hf⟩ := gd_some hf
  obtain ⟨p74, hp74, hf⟩ := obd_some hf
  cases p74 with
  | inl p74 =>
    refine GG.c_X2_50l C rfl (gX1_closes hp74) c73 ⟨Nat.le_of_ble_eq_true rfl, Nat.le_of_ble_eq_true rfl⟩ ⟨Nat.le_of_ble_eq_true rfl, Nat.le_of_ble_eq_true rfl⟩ (Nat.le_of_ble_eq_true rfl) dX2_step_280 ?_
    refine GG.iload_n C dX2_step_283 2 rfl ?_
    refine GG.if_eq C (tgt := 310) dX2_step_284 (by decide) (fun c75 => ?_) (fun c75 => ?_)
    · have hf := if_t hf c75
      refine GG.aload_n C dX2_step_310 0 rfl ?_
      refine GG.dup C dX2_step_311 rfl ?_
      obtain ⟨c76, hf⟩ := gd_some hf
      refine GG.gx_X2_179 C rfl c76 dX2_step_312 ?_
      refine GG.iload_n C dX2_step_315 1 rfl ?_
      refine GG.bipush C dX2_step_316 bp_20 ?_
      refine GG.icmp_ne C (tgt := 325) dX2_step_318 (by decide) (fun c77 => ?_) (fun c77 => ?_)
      · have hf := if_f hf c77
        refine GG.iconst C dX2_step_325 ic_1 ?_
        refine GG.sub [0, 3] rfl ?_
        exact gX2_step_326 C E  _ _ _ _ _ _ hf
      · have hf := if_t hf c77
        refine GG.iconst C dX2_step_321 ic_0 ?_
        refine GG.goto C (tgt := 326) dX2_step_322 (by decide) ?_
        refine GG.sub [0, 3] rfl ?_
        exact gX2_step_326 C E  _ _ _ _ _ _ hf
    · have hf := if_f hf c75
      refine GG.aload_n C dX2_step_287 0 rfl ?_
      obtain ⟨c78, hf⟩ := gd_some hf
      obtain ⟨r79, hr79, hf⟩ := obd_some hf
      refine GG.gx_X2_13 C rfl c78 hr79 dX2_step_288 ?_
      refine GG.aload_n C dX2_step_291 0 rfl ?_
      refine GG.gx_X2_182 C rfl c78 dX2_step_292 ?_
      refine GG.aload_n C dX2_step_295 0 rfl ?_
      refine GG.gx_X2_176 C rfl c78 dX2_step_296 ?_
      obtain ⟨M80, hM80, hf⟩ := obd_some hf
      refine GG.iast C hM80 dX2_step_299 ?_
      refine GG.aload_n C dX2_step_300 0 rfl ?_
      refine GG.dup C dX2_step_301 rfl ?_
      obtain ⟨c81, hf⟩ := gd_some hf
      refine GG.gx_X2_182 C rfl c81 dX2_step_302 ?_
      refine GG.iconst C dX2_step_305 ic_1 ?_
      refine GG.iadd C dX2_step_306 ?_
      refine GG.px_X2_182 C rfl c81 dX2_step_307 ?_
      refine GG.topM fun M82 hM82 => ?_
      have hf := ltb_s hM82 hf
      refine GG.aload_n C dX2_step_310 0 rfl ?_
      refine GG.dup C dX2_step_311 rfl ?_
      obtain ⟨c83, hf⟩ := gd_some hf
      refine GG.gx_X2_179 C rfl c83 dX2_step_312 ?_
      refine GG.iload_n C dX2_step_315 1 rfl ?_
      refine GG.bipush C dX2_step_316 bp_20 ?_
      refine GG.icmp_ne C (tgt := 325) dX2_step_318 (by decide) (fun c84 => ?_) (fun c84 => ?_)
      · have hf := if_f hf c84
        refine GG.iconst C dX2_step_325 ic_1 ?_
        refine GG.sub [0, 3] rfl ?_
        exact gX2_step_326 C E  _ _ _ _ _ _ hf
      · have hf := if_t hf c84
        refine GG.iconst C dX2_step_321 ic_0 ?_
        refine GG.goto C (tgt := 326) dX2_step_322 (by decide) ?_
        refine GG.sub [0, 3] rfl ?_
        exact gX2_step_326 C E  _ _ _ _ _ _ hf
  | inr p74 =>
    obtain ⟨c85, hf⟩ := gd_some hf
    have hf := Option.some.inj hf
    subst hf
    exact GG.c_X2_50r C rfl (gX1_closes hp74) c73 ⟨Nat.le_of_ble_eq_true rfl, Nat.le_of_ble_eq_true rfl⟩ ⟨Nat.le_of_ble_eq_true rfl, Nat.le_of_ble_eq_true rfl⟩ (Nat.le_of_ble_eq_true rfl) dX2_step_280 c85 E ⟨Nat.le_of_ble_eq_true rfl, Nat.le_of_ble_eq_true rfl⟩
theorem gX2_step_168 {K : gK} {X : gX} {S : Option MS} (C : gC K X cX2_step 4 yX2_step none rX2_step)  {o : (XS ⊕ (Nat × XS))} (E : gEX K X (oV o) (oVm o) S rX2_step.cells rX2_step.slots)   :
    ∀ (M : XS) (a0 : Nat) (a1 : Int32) (a2 : Int32) (a3 : Nat), fX2_step_168  M a0 a1 a2 a3 = some o → GG K X 4 1 9 M S 168 [(0, .ref a0), (1, .int a1), (2, .int a2), (3, .ref a3)] [] := by
  intro M a0 a1 a2 a3 hf
  unfold fX2_step_168 at hf
  refine GG.aload_n C dX2_step_168 3 rfl ?_
  refine GG.aload_n C dX2_step_169 0 rfl ?_
  obtain ⟨c94, hf⟩ := gd_some hf
  obtain ⟨p95, hp95, hf⟩ := obd_some hf
  cases p95 with
  | inl p95 =>
    refine GG.c_X2_200l C rfl (gX2_passedChange hp95) c94 ⟨Nat.le_of_ble_eq_true rfl, Nat.le_of_ble_eq_true rfl⟩ ⟨Nat.le_of_ble_eq_true rfl, Nat.le_of_ble_eq_true rfl⟩ (Nat.le_of_ble_eq_true rfl) dX2_step_170 ?_
    obtain ⟨c96, hf⟩ := gd_some hf
    refine GG.px_X2_203 C rfl c96 dX2_step_173 ?_
    refine GG.topM fun M97 hM97 => ?_
    have hf := ltb_s hM97 hf
    refine GG.aload_n C dX2_step_176 0 rfl ?_
    refine GG.bipush C dX2_step_177 bp_21 ?_
    obtain ⟨c98, hf⟩ := gd_some hf
    obtain ⟨p99, hp99, hf⟩ := obd_some hf
    cases p99 with
    | inl p99 =>
      refine GG.c_X2_108l C rfl (gX2_word hp99) c98 ⟨Nat.le_of_ble_eq_true rfl, Nat.le_of_ble_eq_true rfl⟩ ⟨Nat.le_of_ble_eq_true rfl, Nat.le_of_ble_eq_true rfl⟩ (Nat.le_of_ble_eq_true rfl) dX2_step_179 ?_
      refine GG.aload_n C dX2_step_182 3 rfl ?_
      refine GG.aload_n C dX2_step_183 0 rfl ?_
      obtain ⟨c100, hf⟩ := gd_some hf
      obtain ⟨p101, hp101, hf⟩ := obd_some hf
      cases p101 with
      | inl p101 =>
        refine GG.c_X2_194l C rfl (gX2_anIsland hp101) c100 ⟨Nat.le_of_ble_eq_true rfl, Nat.le_of_ble_eq_true rfl⟩ ⟨Nat.le_of_ble_eq_true rfl, Nat.le_of_ble_eq_true rfl⟩ (Nat.le_of_ble_eq_true rfl) dX2_step_184 ?_
        obtain ⟨c102, hf⟩ := gd_some hf
        refine GG.px_X2_197 C rfl c102 dX2_step_187 ?_
        refine GG.topM fun M103 hM103 => ?_
        have hf := ltb_s hM103 hf
        refine GG.goto C (tgt := 279) dX2_step_190 (by decide) ?_
        refine GG.sub [0, 1, 2, 3] rfl ?_
        exact gX2_step_279 C E  _ _ _ _ _ hf
      | inr p101 =>
        obtain ⟨c104, hf⟩ := gd_some hf
        have hf := Option.some.inj hf
        subst hf
        exact GG.c_X2_194r C rfl (gX2_anIsland hp101) c100 ⟨Nat.le_of_ble_eq_true rfl, Nat.le_of_ble_eq_true rfl⟩ ⟨Nat.le_of_ble_eq_true rfl, Nat.le_of_ble_eq_true rfl⟩ (Nat.le_of_ble_eq_true rfl) dX2_step_184 c104 E ⟨Nat.le_of_ble_eq_true rfl, Nat.le_of_ble_eq_true rfl⟩
    | inr p99 =>
      obtain ⟨c105, hf⟩ := gd_some hf
      have hf := Option.some.inj hf
      subst hf
      exact GG.c_X2_108r C rfl (gX2_word hp99) c98 ⟨Nat.le_of_ble_eq_true rfl, Nat.le_of_ble_eq_true rfl⟩ ⟨Nat.le_of_ble_eq_true rfl, Nat.le_of_ble_eq_true rfl⟩ (Nat.le_of_ble_eq_true rfl) dX2_step_179 c105 E ⟨Nat.le_of_ble_eq_true rfl, Nat.le_of_ble_eq_true rfl⟩
  | inr p95 =>
    obtain ⟨c106, hf⟩ := gd_some hf
    have hf := Option.some.inj hf
    subst hf
    exact GG.c_X2_200r C rfl (gX2_passedChange hp95) c94 ⟨Nat.le_of_ble_eq_true rfl, Nat.le_of_ble_eq_true rfl⟩ ⟨Nat.le_of_ble_eq_true rfl, Nat.le_of_ble_eq_true rfl⟩ (Nat.le_of_ble_eq_true rfl) dX2_step_170 c106 E ⟨Nat.le_of_ble_eq_true rfl, Nat.le_of_ble_eq_true rfl⟩
theorem gX2_step_98 {K : gK} {X : gX} {S : Option MS} (C : gC K X cX2_step 4 yX2_step none rX2_step)  {o : (XS ⊕ (Nat × XS))} (E : gEX K X (oV o) (oVm o) S rX2_step.cells rX2_step.slots)   :
    ∀ (M : XS) (a0 : Nat) (a1 : Int32) (a2 : Int32), fX2_step_98  M a0 a1 a2 = some o → GG K X 4 0 0 M S 98 [(0, .ref a0), (1, .int a1), (2, .int a2)] [] := by
  intro M a0 a1 a2 hf
  unfold fX2_step_98 at hf
  refine GG.new C (ci := 9) (r := (RX12, TX12, 9)) rfl q1017 q1023 q170 (Nat.le_of_ble_eq_true rfl) (Nat.le_of_ble_eq_true rfl) dX2_step_98 ?_
  refine GG.topx fun z24 hz24 => ?_
  have hf := ltb_s hz24 hf
  refine GG.topM fun M25 hM25 => ?_
  have hf := ltb_s hM25 hf
  refine GG.dup C dX2_step_101 rfl ?_
  refine GG.iload_n C dX2_step_102 1 rfl ?_
  obtain ⟨p26, hp26, hf⟩ := obd_some hf
  refine GG.c_X2_213 C rfl (gX12_init hp26) ⟨Nat.le_of_ble_eq_true rfl, Nat.le_of_ble_eq_true rfl⟩ ⟨Nat.le_of_ble_eq_true rfl, Nat.le_of_ble_eq_true rfl⟩ (Nat.le_of_ble_eq_true rfl) dX2_step_103 ?_
  refine GG.astore_n C (lv' := [(3, .ref z24), (0, .ref a0), (1, .int a1), (2, .int a2)]) dX2_step_106 (by decide) rfl ?_
  refine GG.aload_n C dX2_step_107 1 rfl ?_
  obtain ⟨c27, hf⟩ := gd_some hf
  obtain ⟨p28, hp28, hf⟩ := obd_some hf
  refine GG.c_X2_27 C rfl (gX1_next hp28) c27 ⟨Nat.le_of_ble_eq_true rfl, Nat.le_of_ble_eq_true rfl⟩ ⟨Nat.le_of_ble_eq_true rfl, Nat.le_of_ble_eq_true rfl⟩ (Nat.le_of_ble_eq_true rfl) dX2_step_108 ?_
  refine GG.iload_n C dX2_step_111 2 rfl ?_
  by_cases c29 : a1 = (nI 11)
  · have hf := if_t hf c29
    refine GG.tin C (k := 11) (off := 56) (tgt := 168) dX2_step_112 (by rw [c29]; rfl) (by decide) (by decide) rfl (by decide) ?_
    refine GG.sub [1, 2, 3, 0] rfl ?_
    exact gX2_step_168 C E  _ _ _ _ _ hf
  · have hf := if_f hf c29
    by_cases c30 : a1 = (nI 12)
    · have hf := if_t hf c30
      refine GG.tin C (k := 12) (off := 81) (tgt := 193) dX2_step_112 (by rw [c30]; rfl) (by decide) (by decide) rfl (by decide) ?_
      refine GG.aload_n C dX2_step_193 1 rfl ?_
      refine GG.aload_n C dX2_step_194 0 rfl ?_
      obtain ⟨c31, hf⟩ := gd_some hf
      obtain ⟨p32, hp32, hf⟩ := obd_some hf
      cases p32 with
      | inl p32 =>
        refine GG.c_X2_215l C rfl (gX2_ship hp32) c31 ⟨Nat.le_of_ble_eq_true rfl, Nat.le_of_ble_eq_true rfl⟩ ⟨Nat.le_of_ble_eq_true rfl, Nat.le_of_ble_eq_true rfl⟩ (Nat.le_of_ble_eq_true rfl) dX2_step_195 ?_
        refine GG.goto C (tgt := 279) dX2_step_198 (by decide) ?_
        refine GG.sub [1, 2, 3, 0] rfl ?_
        exact gX2_step_279 C E  _ _ _ _ _ hf
      | inr p32 =>
        obtain ⟨c33, hf⟩ := gd_some hf
        have hf := Option.some.inj hf
        subst hf
        exact GG.c_X2_215r C rfl (gX2_ship hp32) c31 ⟨Nat.le_of_ble_eq_true rfl, Nat.le_of_ble_eq_true rfl⟩ ⟨Nat.le_of_ble_eq_true rfl, Nat.le_of_ble_eq_true rfl⟩ (Nat.le_of_ble_eq_true rfl) dX2_step_195 c33 E ⟨Nat.le_of_ble_eq_true rfl, Nat.le_of_ble_eq_true rfl⟩
    · have hf := if_f hf c30
      by_cases c34 : a1 = (nI 13)
      · have hf := if_t hf c34
        refine GG.tin C (k := 13) (off := 56) (tgt := 168) dX2_step_112 (by rw [c34]; rfl) (by decide) (by decide) rfl (by decide) ?_
        refine GG.sub [1, 2, 3, 0] rfl ?_
        exact gX2_step_168 C E  _ _ _ _ _ hf
      · have hf := if_f hf c34
        by_cases c35 : a1 = (nI 14)
        · have hf := if_t hf c35
          refine GG.tin C (k := 14) (off := 56) (tgt := 168) dX2_step_112 (by rw [c35]; rfl) (by decide) (by decide) rfl (by decide) ?_
          refine GG.sub [1, 2, 3, 0] rfl ?_
          exact gX2_step_168 C E  _ _ _ _ _ hf
        · have hf := if_f hf c35
          by_cases c36 : a1 = (nI 15)
          · have hf := if_t hf c36
            refine GG.tin C (k := 15) (off := 89) (tgt := 201) dX2_step_112 (by rw [c36]; rfl) (by decide) (by decide) rfl (by decide) ?_
            refine GG.aload_n C dX2_step_201 0 rfl ?_
            refine GG.aload_n C dX2_step_202 1 rfl ?_
            refine GG.iconst C dX2_step_203 ic_1 ?_
            refine GG.bipush C dX2_step_204 bp_99 ?_
            obtain ⟨c37, hf⟩ := gd_some hf
            obtain ⟨p38, hp38, hf⟩ := obd_some hf
            cases p38 with
            | inl p38 =>
              refine GG.c_X2_68l C rfl (gX1_passed hp38) c37 ⟨Nat.le_of_ble_eq_true rfl, Nat.le_of_ble_eq_true rfl⟩ ⟨Nat.le_of_ble_eq_true rfl, Nat.le_of_ble_eq_true rfl⟩ (Nat.le_of_ble_eq_true rfl) dX2_step_206 ?_
              obtain ⟨c39, hf⟩ := gd_some hf
              refine GG.px_X2_191 C rfl c39 dX2_step_209 ?_
              refine GG.topM fun M40 hM40 => ?_
              have hf := ltb_s hM40 hf
              refine GG.goto C (tgt := 279) dX2_step_212 (by decide) ?_
              refine GG.sub [1, 2, 3, 0] rfl ?_
              exact gX2_step_279 C E  _ _ _ _ _ hf
            | inr p38 =>
              obtain ⟨c41, hf⟩ := gd_some hf
              have hf := Option.some.inj hf
              subst hf
              exact GG.c_X2_68r C rfl (gX1_passed hp38) c37 ⟨Nat.le_of_ble_eq_true rfl, Nat.le_of_ble_eq_true rfl⟩ ⟨Nat.le_of_ble_eq_true rfl, Nat.le_of_ble_eq_true rfl⟩ (Nat.le_of_ble_eq_true rfl) dX2_step_206 c41 E ⟨Nat.le_of_ble_eq_true rfl, Nat.le_of_ble_eq_true rfl⟩
          · have hf := if_f hf c36
            by_cases c42 : a1 = (nI 16)
            · have hf := if_t hf c42
              refine GG.tin C (k := 16) (off := 103) (tgt := 215) dX2_step_112 (by rw [c42]; rfl) (by decide) (by decide) rfl (by decide) ?_
              refine GG.aload_n C dX2_step_215 0 rfl ?_
              refine GG.aload_n C dX2_step_216 1 rfl ?_
              refine GG.iconst C dX2_step_217 ic_0 ?_
              refine GG.bipush C dX2_step_218 bp_16 ?_
              obtain ⟨c43, hf⟩ := gd_some hf
              obtain ⟨p44, hp44, hf⟩ := obd_some hf
              cases p44 with
              | inl p44 =>
                refine GG.c_X2_68l C rfl (gX1_passed hp44) c43 ⟨Nat.le_of_ble_eq_true rfl, Nat.le_of_ble_eq_true rfl⟩ ⟨Nat.le_of_ble_eq_true rfl, Nat.le_of_ble_eq_true rfl⟩ (Nat.le_of_ble_eq_true rfl) dX2_step_220 ?_
                obtain ⟨c45, hf⟩ := gd_some hf
                refine GG.px_X2_191 C rfl c45 dX2_step_223 ?_
                refine GG.topM fun M46 hM46 => ?_
                have hf := ltb_s hM46 hf
                refine GG.goto C (tgt := 279) dX2_step_226 (by decide) ?_
                refine GG.sub [1, 2, 3, 0] rfl ?_
                exact gX2_step_279 C E  _ _ _ _ _ hf
              | inr p44 =>
                obtain ⟨c47, hf⟩ := gd_some hf
                have hf := Option.some.inj hf
                subst hf
                exact GG.c_X2_68r C rfl (gX1_passed hp44) c43 ⟨Nat.le_of_ble_eq_true rfl, Nat.le_of_ble_eq_true rfl⟩ ⟨Nat.le_of_ble_eq_true rfl, Nat.le_of_ble_eq_true rfl⟩ (Nat.le_of_ble_eq_true rfl) dX2_step_220 c47 E ⟨Nat.le_of_ble_eq_true rfl, Nat.le_of_ble_eq_true rfl⟩
            · have hf := if_f hf c42
              by_cases c48 : a1 = (nI 17)
              · have hf := if_t hf c48
                refine GG.tin C (k := 17) (off := 117) (tgt := 229) dX2_step_112 (by rw [c48]; rfl) (by decide) (by decide) rfl (by decide) ?_
                refine GG.aload_n C dX2_step_229 1 rfl ?_
                refine GG.aload_n C dX2_step_230 0 rfl ?_
                obtain ⟨c49, hf⟩ := gd_some hf
                obtain ⟨p50, hp50, hf⟩ := obd_some hf
                cases p50 with
                | inl p50 =>
                  refine GG.c_X2_219l C rfl (gX2_test hp50) c49 ⟨Nat.le_of_ble_eq_true rfl, Nat.le_of_ble_eq_true rfl⟩ ⟨Nat.le_of_ble_eq_true rfl, Nat.le_of_ble_eq_true rfl⟩ (Nat.le_of_ble_eq_true rfl) dX2_step_231 ?_
                  refine GG.goto C (tgt := 279) dX2_step_234 (by decide) ?_
                  refine GG.sub [1, 2, 3, 0] rfl ?_
                  exact gX2_step_279 C E  _ _ _ _ _ hf
                | inr p50 =>
                  obtain ⟨c51, hf⟩ := gd_some hf
                  have hf := Option.some.inj hf
                  subst hf
                  exact GG.c_X2_219r C rfl (gX2_test hp50) c49 ⟨Nat.le_of_ble_eq_true rfl, Nat.le_of_ble_eq_true rfl⟩ ⟨Nat.le_of_ble_eq_true rfl, Nat.le_of_ble_eq_true rfl⟩ (Nat.le_of_ble_eq_true rfl) dX2_step_231 c51 E ⟨Nat.le_of_ble_eq_true rfl, Nat.le_of_ble_eq_true rfl⟩
              · have hf := if_f hf c48
                by_cases c52 : a1 = (nI 18)
                · have hf := if_t hf c52
                  refine GG.tin C (k := 18) (off := 89) (tgt := 201) dX2_step_112 (by rw [c52]; rfl) (by decide) (by decide) rfl (by decide) ?_
                  refine GG.aload_n C dX2_step_201 0 rfl ?_
                  refine GG.aload_n C dX2_step_202 1 rfl ?_
                  refine GG.iconst C dX2_step_203 ic_1 ?_
                  refine GG.bipush C dX2_step_204 bp_99 ?_
                  obtain ⟨c53, hf⟩ := gd_some hf
                  obtain ⟨p54, hp54, hf⟩ := obd_some hf
                  cases p54 with
                  | inl p54 =>
                    refine GG.c_X2_68l C rfl (gX1_passed hp54) c53 ⟨Nat.le_of_ble_eq_true rfl, Nat.le_of_ble_eq_true rfl⟩ ⟨Nat.le_of_ble_eq_true rfl, Nat.le_of_ble_eq_true rfl⟩ (Nat.le_of_ble_eq_true rfl) dX2_step_206 ?_
                    obtain ⟨c55, hf⟩ := gd_some hf
                    refine GG.px_X2_191 C rfl c55 dX2_step_209 ?_
                    refine GG.topM fun M56 hM56 => ?_
                    have hf := ltb_s hM56 hf
                    refine GG.goto C (tgt := 279) dX2_step_212 (by decide) ?_
                    refine GG.sub [1, 2, 3, 0] rfl ?_
                    exact gX2_step_279 C E  _ _ _ _ _ hf
                  | inr p54 =>
                    obtain ⟨c57, hf⟩ := gd_some hf
                    have hf := Option.some.inj hf
                    subst hf
                    exact GG.c_X2_68r C rfl (gX1_passed hp54) c53 ⟨Nat.le_of_ble_eq_true rfl, Nat.le_of_ble_eq_true rfl⟩ ⟨Nat.le_of_ble_eq_true rfl, Nat.le_of_ble_eq_true rfl⟩ (Nat.le_of_ble_eq_true rfl) dX2_step_206 c57 E ⟨Nat.le_of_ble_eq_true rfl, Nat.le_of_ble_eq_true rfl⟩
                · have hf := if_f hf c52
                  by_cases c58 : a1 = (nI 19)
                  · have hf := if_t hf c58
                    refine GG.tin C (k := 19) (off := 167) (tgt := 279) dX2_step_112 (by rw [c58]; rfl) (by decide) (by decide) rfl (by decide) ?_
                    refine GG.sub [1, 2, 3, 0] rfl ?_
                    exact gX2_step_279 C E  _ _ _ _ _ hf
                  · have hf := if_f hf c58
                    by_cases c59 : a1 = (nI 20)
                    · have hf := if_t hf c59
                      refine GG.tin C (k := 20) (off := 125) (tgt := 237) dX2_step_112 (by rw [c59]; rfl) (by decide) (by decide) rfl (by decide) ?_
                      refine GG.aload_n C dX2_step_237 1 rfl ?_
                      refine GG.dup C dX2_step_238 rfl ?_
                      obtain ⟨c60, hf⟩ := gd_some hf
                      refine GG.gx_X2_182 C rfl c60 dX2_step_239 ?_
                      refine GG.iconst C dX2_step_242 ic_1 ?_
                      refine GG.isub C dX2_step_243 ?_
                      refine GG.px_X2_182 C rfl c60 dX2_step_244 ?_
                      refine GG.topM fun M61 hM61 => ?_
                      have hf := ltb_s hM61 hf
                      refine GG.aload_n C dX2_step_247 0 rfl ?_
                      refine GG.aload_n C dX2_step_248 1 rfl ?_
                      obtain ⟨c62, hf⟩ := gd_some hf
                      obtain ⟨r63, hr63, hf⟩ := obd_some hf
                      refine GG.gx_X2_13 C rfl c62 hr63 dX2_step_249 ?_
                      refine GG.aload_n C dX2_step_252 1 rfl ?_
                      refine GG.gx_X2_182 C rfl c62 dX2_step_253 ?_
                      obtain ⟨v64, hv64, hf⟩ := obd_some hf
                      refine GG.iald C hv64 dX2_step_256 ?_
                      obtain ⟨c65, hf⟩ := gd_some hf
                      refine GG.px_X2_221 C rfl c65 dX2_step_257 ?_
                      refine GG.topM fun M66 hM66 => ?_
                      have hf := ltb_s hM66 hf
                      refine GG.aload_n C dX2_step_260 1 rfl ?_
                      obtain ⟨c67, hf⟩ := gd_some hf
                      obtain ⟨r68, hr68, hf⟩ := obd_some hf
                      refine GG.gx_X2_172 C rfl c67 hr68 dX2_step_261 ?_
                      refine GG.aload_n C dX2_step_264 0 rfl ?_
                      obtain ⟨c69, hf⟩ := gd_some hf
                      refine GG.gx_X2_221 C rfl c69 dX2_step_265 ?_
                      obtain ⟨r70, hr70, hf⟩ := obd_some hf
                      refine GG.aald C 2 hr70 (by decide) dX2_step_268 ?_
                      refine GG.aload_n C dX2_step_269 1 rfl ?_
                      refine GG.gx_X2_176 C rfl c67 dX2_step_270 ?_
                      obtain ⟨c71, hf⟩ := gd_some hf
                      refine GG.px_X2_221 C rfl c71 dX2_step_273 ?_
                      refine GG.topM fun M72 hM72 => ?_
                      have hf := ltb_s hM72 hf
                      refine GG.goto C (tgt := 279) dX2_step_276 (by decide) ?_
                      refine GG.sub [1, 2, 3, 0] rfl ?_
                      exact gX2_step_279 C E  _ _ _ _ _ hf
                    · have hf := if_f hf c59
                      refine GG.tout C (tgt := 279) dX2_step_112 (by have qc29 := lv_neT c29 (a := 11) rfl; have qc30 := lv_neT c30 (a := 12) rfl; have qc34 := lv_neT c34 (a := 13) rfl; have qc35 := lv_neT c35 (a := 14) rfl; have qc36 := lv_neT c36 (a := 15) rfl; have qc42 := lv_neT c42 (a := 16) rfl; have qc48 := lv_neT c48 (a := 17) rfl; have qc52 := lv_neT c52 (a := 18) rfl; have qc58 := lv_neT c58 (a := 19) rfl; have qc59 := lv_neT c59 (a := 20) rfl; omega) (by decide) ?_
                      refine GG.sub [1, 2, 3, 0] rfl ?_
                      exact gX2_step_279 C E  _ _ _ _ _ hf
theorem gX2_step_54 {K : gK} {X : gX} {S : Option MS} (C : gC K X cX2_step 4 yX2_step none rX2_step)  {o : (XS ⊕ (Nat × XS))} (E : gEX K X (oV o) (oVm o) S rX2_step.cells rX2_step.slots)   :
    ∀ (M : XS) (a0 : Nat) (a1 : Int32) (a2 : Int32) (s0 : Int32) (s1 : Nat), fX2_step_54  M a0 a1 a2 s0 s1 = some o → GG K X 4 0 0 M S 54 [(0, .ref a0), (1, .int a1), (2, .int a2)] [.int s0, .ref s1] := by
  intro M a0 a1 a2 s0 s1 hf
  unfold fX2_step_54 at hf
  obtain ⟨c7, hf⟩ := gd_some hf
  obtain ⟨p8, hp8, hf⟩ := obd_some hf
  cases p8 with
  | inl p8 =>
    refine GG.c_X2_23l C rfl (gX1_need hp8) c7 ⟨Nat.le_of_ble_eq_true rfl, Nat.le_of_ble_eq_true rfl⟩ ⟨Nat.le_of_ble_eq_true rfl, Nat.le_of_ble_eq_true rfl⟩ (Nat.le_of_ble_eq_true rfl) dX2_step_54 ?_
    refine GG.iload_n C dX2_step_57 1 rfl ?_
    refine GG.bipush C dX2_step_58 bp_20 ?_
    refine GG.icmp_eq C (tgt := 79) dX2_step_60 (by decide) (fun c9 => ?_) (fun c9 => ?_)
    · have hf := if_t hf c9
      refine GG.iload_n C dX2_step_79 2 rfl ?_
      refine GG.if_eq C (tgt := 98) dX2_step_80 (by decide) (fun c10 => ?_) (fun c10 => ?_)
      · have hf := if_t hf c10
        refine GG.sub [0, 1, 2] rfl ?_
        exact gX2_step_98 C E  _ _ _ _ hf
      · have hf := if_f hf c10
        refine GG.aload_n C dX2_step_83 0 rfl ?_
        obtain ⟨c11, hf⟩ := gd_some hf
        refine GG.gx_X2_182 C rfl c11 dX2_step_84 ?_
        refine GG.iconst C dX2_step_87 ic_3 ?_
        refine GG.icmp_ne C (tgt := 98) dX2_step_88 (by decide) (fun c12 => ?_) (fun c12 => ?_)
        · have hf := if_f hf c12
          refine GG.sub [0, 1, 2] rfl ?_
          exact gX2_step_98 C E  _ _ _ _ hf
        · have hf := if_t hf c12
          refine GG.aload_n C dX2_step_91 0 rfl ?_
          refine GG.bipush C dX2_step_92 bp_7 ?_
          obtain ⟨p13, hp13, hf⟩ := obd_some hf
          refine GG.c_X2_64 C rfl (gX1_fail hp13) c11 ⟨Nat.le_of_ble_eq_true rfl, Nat.le_of_ble_eq_true rfl⟩ ⟨Nat.le_of_ble_eq_true rfl, Nat.le_of_ble_eq_true rfl⟩ (Nat.le_of_ble_eq_true rfl) dX2_step_94 ?_
          obtain ⟨c14, hf⟩ := gd_some hf
          have hf := Option.some.inj hf
          subst hf
          exact GG.athrow C E (Nat.le_of_ble_eq_true rfl) (Nat.le_of_ble_eq_true rfl) c14 dX2_step_97
    · have hf := if_f hf c9
      refine GG.aload_n C dX2_step_63 0 rfl ?_
      obtain ⟨c15, hf⟩ := gd_some hf
      refine GG.gx_X2_179 C rfl c15 dX2_step_64 ?_
      refine GG.bipush C dX2_step_67 bp_30 ?_
      refine GG.icmp_ne C (tgt := 79) dX2_step_69 (by decide) (fun c16 => ?_) (fun c16 => ?_)
      · have hf := if_f hf c16
        refine GG.iload_n C dX2_step_79 2 rfl ?_
        refine GG.if_eq C (tgt := 98) dX2_step_80 (by decide) (fun c17 => ?_) (fun c17 => ?_)
        · have hf := if_t hf c17
          refine GG.sub [0, 1, 2] rfl ?_
          exact gX2_step_98 C E  _ _ _ _ hf
        · have hf := if_f hf c17
          refine GG.aload_n C dX2_step_83 0 rfl ?_
          refine GG.gx_X2_182 C rfl c15 dX2_step_84 ?_
          refine GG.iconst C dX2_step_87 ic_3 ?_
          refine GG.icmp_ne C (tgt := 98) dX2_step_88 (by decide) (fun c18 => ?_) (fun c18 => ?_)
          · have hf := if_f hf c18
            refine GG.sub [0, 1, 2] rfl ?_
            exact gX2_step_98 C E  _ _ _ _ hf
          · have hf := if_t hf c18
            refine GG.aload_n C dX2_step_91 0 rfl ?_
            refine GG.bipush C dX2_step_92 bp_7 ?_
            obtain ⟨p19, hp19, hf⟩ := obd_some hf
            refine GG.c_X2_64 C rfl (gX1_fail hp19) c15 ⟨Nat.le_of_ble_eq_true rfl, Nat.le_of_ble_eq_true rfl⟩ ⟨Nat.le_of_ble_eq_true rfl, Nat.le_of_ble_eq_true rfl⟩ (Nat.le_of_ble_eq_true rfl) dX2_step_94 ?_
            obtain ⟨c20, hf⟩ := gd_some hf
            have hf := Option.some.inj hf
            subst hf
            exact GG.athrow C E (Nat.le_of_ble_eq_true rfl) (Nat.le_of_ble_eq_true rfl) c20 dX2_step_97
      · have hf := if_t hf c16
        refine GG.aload_n C dX2_step_72 0 rfl ?_
        refine GG.bipush C dX2_step_73 bp_6 ?_
        obtain ⟨p21, hp21, hf⟩ := obd_some hf
        refine GG.c_X2_64 C rfl (gX1_fail hp21) c15 ⟨Nat.le_of_ble_eq_true rfl, Nat.le_of_ble_eq_true rfl⟩ ⟨Nat.le_of_ble_eq_true rfl, Nat.le_of_ble_eq_true rfl⟩ (Nat.le_of_ble_eq_true rfl) dX2_step_75 ?_
        obtain ⟨c22, hf⟩ := gd_some hf
        have hf := Option.some.inj hf
        subst hf
        exact GG.athrow C E (Nat.le_of_ble_eq_true rfl) (Nat.le_of_ble_eq_true rfl) c22 dX2_step_78
  | inr p8 =>
    obtain ⟨c23, hf⟩ := gd_some hf
    have hf := Option.some.inj hf
    subst hf
    exact GG.c_X2_23r C rfl (gX1_need hp8) c7 ⟨Nat.le_of_ble_eq_true rfl, Nat.le_of_ble_eq_true rfl⟩ ⟨Nat.le_of_ble_eq_true rfl, Nat.le_of_ble_eq_true rfl⟩ (Nat.le_of_ble_eq_true rfl) dX2_step_54 c23 E ⟨Nat.le_of_ble_eq_true rfl, Nat.le_of_ble_eq_true rfl⟩
theorem gX2_step_36 {K : gK} {X : gX} {S : Option MS} (C : gC K X cX2_step 4 yX2_step none rX2_step)  {o : (XS ⊕ (Nat × XS))} (E : gEX K X (oV o) (oVm o) S rX2_step.cells rX2_step.slots)   :
    ∀ (M : XS) (a0 : Nat) (a1 : Int32) (a2 : Int32) (s0 : Nat), fX2_step_36  M a0 a1 a2 s0 = some o → GG K X 4 0 0 M S 36 [(0, .ref a0), (1, .int a1), (2, .int a2)] [.ref s0] := by
  intro M a0 a1 a2 s0 hf
  unfold fX2_step_36 at hf
  refine GG.iload_n C dX2_step_36 1 rfl ?_
  refine GG.bipush C dX2_step_37 bp_20 ?_
  refine GG.icmp_ne C (tgt := 53) dX2_step_39 (by decide) (fun c107 => ?_) (fun c107 => ?_)
  · have hf := if_f hf c107
    refine GG.iconst C dX2_step_53 ic_0 ?_
    refine GG.sub [0, 1, 2] rfl ?_
    exact gX2_step_54 C E  _ _ _ _ _ _ hf
  · have hf := if_t hf c107
    refine GG.aload_n C dX2_step_42 0 rfl ?_
    obtain ⟨c108, hf⟩ := gd_some hf
    refine GG.gx_X2_182 C rfl c108 dX2_step_43 ?_
    refine GG.if_le C (tgt := 53) dX2_step_46 (by decide) (fun c109 => ?_) (fun c109 => ?_)
    · have hf := if_t hf c109
      refine GG.iconst C dX2_step_53 ic_0 ?_
      refine GG.sub [0, 1, 2] rfl ?_
      exact gX2_step_54 C E  _ _ _ _ _ _ hf
    · have hf := if_f hf c109
      refine GG.iconst C dX2_step_49 ic_1 ?_
      refine GG.goto C (tgt := 54) dX2_step_50 (by decide) ?_
      refine GG.sub [0, 1, 2] rfl ?_
      exact gX2_step_54 C E  _ _ _ _ _ _ hf
theorem gX2_step_22 {K : gK} {X : gX} {S : Option MS} (C : gC K X cX2_step 4 yX2_step none rX2_step)  {o : (XS ⊕ (Nat × XS))} (E : gEX K X (oV o) (oVm o) S rX2_step.cells rX2_step.slots)   :
    ∀ (M : XS) (a0 : Nat) (a1 : Int32) (s0 : Int32), fX2_step_22  M a0 a1 s0 = some o → GG K X 4 0 0 M S 22 [(0, .ref a0), (1, .int a1)] [.int s0] := by
  intro M a0 a1 s0 hf
  unfold fX2_step_22 at hf
  refine GG.istore_n C (lv' := [(2, .int s0), (0, .ref a0), (1, .int a1)]) dX2_step_22 (by decide) rfl ?_
  refine GG.aload_n C dX2_step_23 1 rfl ?_
  refine GG.iload_n C dX2_step_24 2 rfl ?_
  refine GG.bipush C dX2_step_25 bp_11 ?_
  refine GG.icmp_lt C (tgt := 36) dX2_step_27 (by decide) (fun c5 => ?_) (fun c5 => ?_)
  · have hf := if_t hf c5
    refine GG.sub [1, 2, 0] rfl ?_
    exact gX2_step_36 C E  _ _ _ _ _ hf
  · have hf := if_f hf c5
    refine GG.iload_n C dX2_step_30 2 rfl ?_
    refine GG.bipush C dX2_step_31 bp_19 ?_
    refine GG.icmp_le C (tgt := 49) dX2_step_33 (by decide) (fun c6 => ?_) (fun c6 => ?_)
    · have hf := if_t hf c6
      refine GG.iconst C dX2_step_49 ic_1 ?_
      refine GG.goto C (tgt := 54) dX2_step_50 (by decide) ?_
      refine GG.sub [1, 2, 0] rfl ?_
      exact gX2_step_54 C E  _ _ _ _ _ _ hf
    · have hf := if_f hf c6
      refine GG.sub [1, 2, 0] rfl ?_
      exact gX2_step_36 C E  _ _ _ _ _ hf
theorem gX2_step {K : gK} {S : Option MS}  {M : XS} {a0 : Nat} {o : (XS ⊕ (Nat × XS))} (hf : fX2_step M a0 = some o) : gMetX K yX2_step cX2_step 4 none rX2_step [(.ref a0)] M S (oV o) (oVm o) S := by
  refine gMetX.of pn_X2 (Nat.le_of_ble_eq_true rfl) fun X C E => ?_
  unfold fX2_step at hf
  show GG K X 4 0 0 M S 0 [(0, .ref a0)] []
  refine GG.aload_n C dX2_step_0 0 rfl ?_
  obtain ⟨c1, hf⟩ := gd_some hf
  obtain ⟨v2, hv2, hf⟩ := obd_some hf
  refine GG.c_X2_19 C rfl (gX1_key hv2) c1 ⟨Nat.le_of_ble_eq_true rfl, Nat.le_of_ble_eq_true rfl⟩ ⟨Nat.le_of_ble_eq_true rfl, Nat.le_of_ble_eq_true rfl⟩ (Nat.le_of_ble_eq_true rfl) dX2_step_1 ?_
  refine GG.istore_n C (lv' := [(1, .int v2), (0, .ref a0)]) dX2_step_4 (by decide) rfl ?_
  refine GG.iload_n C dX2_step_5 0 rfl ?_
  refine GG.bipush C dX2_step_6 bp_17 ?_
  refine GG.icmp_eq C (tgt := 17) dX2_step_8 (by decide) (fun c3 => ?_) (fun c3 => ?_)
  · have hf := if_t hf c3
    refine GG.iconst C dX2_step_17 ic_1 ?_
    refine GG.goto C (tgt := 22) dX2_step_18 (by decide) ?_
    refine GG.sub [1, 0] rfl ?_
    exact gX2_step_22 C E  _ _ _ _ hf
  · have hf := if_f hf c3
    refine GG.iload_n C dX2_step_11 0 rfl ?_
    refine GG.bipush C dX2_step_12 bp_18 ?_
    refine GG.icmp_ne C (tgt := 21) dX2_step_14 (by decide) (fun c4 => ?_) (fun c4 => ?_)
    · have hf := if_f hf c4
      refine GG.iconst C dX2_step_21 ic_0 ?_
      refine GG.sub [1, 0] rfl ?_
      exact gX2_step_22 C E  _ _ _ _ hf
    · have hf := if_t hf c4
      refine GG.iconst C dX2_step_17 ic_1 ?_
      refine GG.goto C (tgt := 22) dX2_step_18 (by decide) ?_
      refine GG.sub [1, 0] rfl ?_
      exact gX2_step_22 C E  _ _ _ _ hf
theorem gX4_init {K : gK} {S : Option MS}  {M : XS} {a0 : Nat} {o : XS} (hf : fX4_init M a0 = some o) : gMet K yX4_init cX4_init 1 none rX4_init [(.ref a0)] M S none o S := by
  refine gMet.of pn_X4 (Nat.le_of_ble_eq_true rfl) fun X C E => ?_
  unfold fX4_init at hf
  show GG K X 1 0 0 M S 0 [(0, .ref a0)] []
  refine GG.aload_n C dX4_init_0 0 rfl ?_
  refine GG.objInit C q344 q179 q180 (Nat.le_of_ble_eq_true rfl) (Nat.le_of_ble_eq_true rfl) dX4_init_1 ?_
  refine GG.aload_n C dX4_init_4 0 rfl ?_
  refine GG.bipush C dX4_init_5 bp_16 ?_
  refine GG.newR C 0 rfl (fun _ _ => rfl) (by decide) q345 q346 (N := 16) (by decide) (by decide) (by decide) (Nat.le_of_ble_eq_true rfl) (Nat.le_of_ble_eq_true rfl) dX4_init_7 ?_
  refine GG.topx fun z1 hz1 => ?_
  have hf := ltb_s hz1 hf
  refine GG.topM fun M2 hM2 => ?_
  have hf := ltb_s hM2 hf
  obtain ⟨c3, hf⟩ := gd_some hf
  refine GG.px_X4_11 C rfl rfl c3 (x := (some z1)) rfl dX4_init_10 ?_
  refine GG.topM fun M4 hM4 => ?_
  have hf := ltb_s hM4 hf
  refine GG.aload_n C dX4_init_13 0 rfl ?_
  refine GG.iconst C dX4_init_14 ic_4 ?_
  refine GG.newA C 3 (by decide) rfl q367 (N := 4) (by decide) (by decide) (by decide) (Nat.le_of_ble_eq_true rfl) (Nat.le_of_ble_eq_true rfl) dX4_init_15 ?_
  refine GG.topx fun z5 hz5 => ?_
  have hf := ltb_s hz5 hf
  refine GG.topM fun M6 hM6 => ?_
  have hf := ltb_s hM6 hf
  obtain ⟨c7, hf⟩ := gd_some hf
  refine GG.px_X4_17 C rfl rfl c7 (x := (some z5)) rfl dX4_init_17 ?_
  refine GG.topM fun M8 hM8 => ?_
  have hf := ltb_s hM8 hf
  have hf := Option.some.inj hf
  subst hf
  refine GG.widen (cs' := rX4_init.cells) (sl' := rX4_init.slots) (Nat.le_of_ble_eq_true rfl) (Nat.le_of_ble_eq_true rfl) ?_
  exact GG.vret C E dX4_init_20
theorem gX5_init {K : gK} {M : XS} {S : Option MS}  {a0 : Nat} {o : Unit} (hf : fX5_init a0 = some o) : gMet K yX5_init cX5_init 1 none rX5_init [(.ref a0)] M S none M S := by
  refine gMet.of pn_X5 (Nat.le_of_ble_eq_true rfl) fun X C E => ?_
  unfold fX5_init at hf
  show GG K X 1 0 0 M S 0 [(0, .ref a0)] []
  refine GG.aload_n C dX5_init_0 0 rfl ?_
  refine GG.objInit C q375 q179 q180 (Nat.le_of_ble_eq_true rfl) (Nat.le_of_ble_eq_true rfl) dX5_init_1 ?_
  have hf := Option.some.inj hf
  subst hf
  exact GG.vret C E dX5_init_4
theorem gX5_many {K : gK} {S : Option MS}  {M : XS} {a0 : Nat} {o : Int32} (hf : fX5_many M a0 = some o) : gMet K yX5_many cX5_many 1 (some Jvm.ClassFile.FieldType.int) rX5_many [(.ref a0)] M S (some (.int o)) M S := by
  refine gMet.of pn_X5 (Nat.le_of_ble_eq_true rfl) fun X C E => ?_
  unfold fX5_many at hf
  show GG K X 1 0 0 M S 0 [(0, .ref a0)] []
  refine GG.aload_n C dX5_many_0 0 rfl ?_
  obtain ⟨c1, hf⟩ := gd_some hf
  refine GG.gx_X5_13 C rfl c1 dX5_many_1 ?_
  refine GG.if_ne C (tgt := 18) dX5_many_4 (by decide) (fun c2 => ?_) (fun c2 => ?_)
  · have hf := if_f hf c2
    refine GG.aload_n C dX5_many_18 0 rfl ?_
    refine GG.gx_X5_13 C rfl c1 dX5_many_19 ?_
    refine GG.iconst C dX5_many_22 ic_1 ?_
    refine GG.icmp_ne C (tgt := 37) dX5_many_23 (by decide) (fun c3 => ?_) (fun c3 => ?_)
    · have hf := if_f hf c3
      refine GG.aload_n C dX5_many_37 0 rfl ?_
      refine GG.gx_X5_13 C rfl c1 dX5_many_38 ?_
      refine GG.iconst C dX5_many_41 ic_2 ?_
      refine GG.icmp_ne C (tgt := 56) dX5_many_42 (by decide) (fun c4 => ?_) (fun c4 => ?_)
      · have hf := if_f hf c4
        refine GG.aload_n C dX5_many_56 0 rfl ?_
        obtain ⟨r5, hr5, hf⟩ := obd_some hf
        refine GG.gx_X5_7 C rfl c1 hr5 dX5_many_57 ?_
        obtain ⟨c6, hf⟩ := gd_some hf
        refine GG.castA C 3 c6 (by decide) q607 (by decide) dX5_many_60 ?_
        refine GG.alen C 3 c6 (by decide) dX5_many_63 ?_
        have hf := Option.some.inj hf
        subst hf
        exact GG.iret C E dX5_many_64
      · have hf := if_t hf c4
        refine GG.aload_n C dX5_many_45 0 rfl ?_
        obtain ⟨r7, hr7, hf⟩ := obd_some hf
        refine GG.gx_X5_7 C rfl c1 hr7 dX5_many_46 ?_
        obtain ⟨c8, hf⟩ := gd_some hf
        refine GG.castA C 0 c8 (by decide) q606 (by decide) dX5_many_49 ?_
        refine GG.alen C 0 c8 (by decide) dX5_many_52 ?_
        refine GG.goto C (tgt := 64) dX5_many_53 (by decide) ?_
        have hf := Option.some.inj hf
        subst hf
        exact GG.iret C E dX5_many_64
    · have hf := if_t hf c3
      refine GG.aload_n C dX5_many_26 0 rfl ?_
      obtain ⟨r9, hr9, hf⟩ := obd_some hf
      refine GG.gx_X5_7 C rfl c1 hr9 dX5_many_27 ?_
      obtain ⟨c10, hf⟩ := gd_some hf
      refine GG.castA C 2 c10 (by decide) q605 (by decide) dX5_many_30 ?_
      refine GG.alen C 2 c10 (by decide) dX5_many_33 ?_
      refine GG.goto C (tgt := 64) dX5_many_34 (by decide) ?_
      have hf := Option.some.inj hf
      subst hf
      exact GG.iret C E dX5_many_64
  · have hf := if_t hf c2
    refine GG.aload_n C dX5_many_7 0 rfl ?_
    obtain ⟨r11, hr11, hf⟩ := obd_some hf
    refine GG.gx_X5_7 C rfl c1 hr11 dX5_many_8 ?_
    obtain ⟨c12, hf⟩ := gd_some hf
    refine GG.castA C 1 c12 (by decide) q604 (by decide) dX5_many_11 ?_
    refine GG.alen C 1 c12 (by decide) dX5_many_14 ?_
    refine GG.goto C (tgt := 64) dX5_many_15 (by decide) ?_
    have hf := Option.some.inj hf
    subst hf
    exact GG.iret C E dX5_many_64
