/-! THE BLOCKS: every method that is reached, cut at its jumps; printed by a program out of the claim's names -/
set_option maxRecDepth 100000
def cO_ : List Nat := [0, 1, 2, 3, 4, 5, 6, 7, 8, 9, 10, 11, 12, 13, 14, 15, 16, 17, 18]
def I_stuck : Ii_ := fun _ _ _ => none
/- AC.init ()V -/
def K0_0 (E : En_) : List Ii_ := [I_aload 0, I_obj, I_vret]
def M0 : Mi_ := (⟨"java/util/AbstractCollection", "<init>", "()V"⟩, prog_39_method_1_code, 1, (Option.none : Option Jvm.ClassFile.FieldType), [], 1)
/- AC.isEmpty ()Z -/
def K1_0 (E : En_) : List Ii_ := [I_aload 0, I_callv [(11, 26), (13, 53), (18, 11)] [1] no_, I_ifne 1, I_push (1), I_goto 2]
def K1_1 (E : En_) : List Ii_ := [I_mask [false], I_push (0), I_goto 2]
def K1_2 (E : En_) : List Ii_ := [I_mask [false], I_nret .boolean]
def M1 : Mi_ := (⟨"java/util/AbstractCollection", "isEmpty", "()Z"⟩, prog_39_method_4_code, 1, (Option.some Jvm.ClassFile.FieldType.boolean), [], 2)
/- AL.init ()V -/
def K2_0 (E : En_) : List Ii_ := [I_aload 0, I_calli 0 [1] no_, I_aload 0, I_push (0), I_putf [(11, 0), (13, 0)] (.int), I_vret]
def M2 : Mi_ := (⟨"java/util/AbstractList", "<init>", "()V"⟩, prog_40_method_1_code, 1, (Option.none : Option Jvm.ClassFile.FieldType), [], 2)
/- IC.listFromTrustedArray ([Ljava/lang/Object;)Ljava/util/List; -/
def K3_0 (E : En_) : List Ii_ := [I_val (E.2.2.2.1 11), I_ifne 1, I_aload 0, I_stuck]
def K3_1 (E : En_) : List Ii_ := [I_mask [true, false, false, false, false], I_aload 0, I_astore 1, I_aload 1, I_alen, I_istore 2, I_push (0), I_istore 3, I_goto 2]
def K3_2 (E : En_) : List Ii_ := [I_mask [true, true, true, true, false], I_iload 3, I_iload 2, I_icge 3, I_aload 1, I_iload 3, I_aald, I_astore 4, I_aload 4, I_call 4 [1] no_, I_pop, I_iinc 3 (1), I_goto 2]
def K3_3 (E : En_) : List Ii_ := [I_mask [true, false, false, false, false], I_aload 0, I_alen, I_tsw 0 [4, 5, 6] 7]
def K3_4 (E : En_) : List Ii_ := [I_mask [false, false, false, false, false], I_stuck]
def K3_5 (E : En_) : List Ii_ := [I_mask [true, false, false, false, false], I_stuck]
def K3_6 (E : En_) : List Ii_ := [I_mask [true, false, false, false, false], I_stuck]
def K3_7 (E : En_) : List Ii_ := [I_mask [true, false, false, false, false], I_new 18 [.null, .int 0], I_dup, I_aload 0, I_push (0), I_calli 10 [0, 1, 1] no_, I_goto 8]
def K3_8 (E : En_) : List Ii_ := [I_mask [false, false, false, false, false], I_aret]
def M3 : Mi_ := (⟨"java/util/ImmutableCollections", "listFromTrustedArray", "([Ljava/lang/Object;)Ljava/util/List;"⟩, prog_50_method_5_code, 5, (Option.some (Jvm.ClassFile.FieldType.object "java/util/List")), [], 5)
/- OB.requireNonNull (Ljava/lang/Object;)Ljava/lang/Object; -/
def K4_0 (E : En_) : List Ii_ := [I_aload 0, I_ifnonnull 1, I_stuck]
def K4_1 (E : En_) : List Ii_ := [I_aload 0, I_aret]
def M4 : Mi_ := (⟨"java/util/Objects", "requireNonNull", "(Ljava/lang/Object;)Ljava/lang/Object;"⟩, prog_63_method_10_code, 1, (Option.some (Jvm.ClassFile.FieldType.object "java/lang/Object")), [], 1)
/- OB.equals (Ljava/lang/Object;Ljava/lang/Object;)Z -/
def K5_0 (E : En_) : List Ii_ := [I_aload 0, I_aload 1, I_aeq 1, I_aload 0, I_ifnull 2, I_aload 0, I_aload 1, I_callv [(16, 88)] [1, 1] no_, I_ifeq 2, I_goto 1]
def K5_1 (E : En_) : List Ii_ := [I_mask [false, false], I_push (1), I_goto 3]
def K5_2 (E : En_) : List Ii_ := [I_mask [false, false], I_push (0), I_goto 3]
def K5_3 (E : En_) : List Ii_ := [I_mask [false, false], I_nret .boolean]
def M5 : Mi_ := (⟨"java/util/Objects", "equals", "(Ljava/lang/Object;Ljava/lang/Object;)Z"⟩, prog_63_method_2_code, 2, (Option.some Jvm.ClassFile.FieldType.boolean), [], 3)
/- OB.checkIndex (II)I -/
def K6_0 (E : En_) : List Ii_ := [I_iload 0, I_iload 1, I_null, I_call 37 [1, 0, 0] no_, I_iret]
def M6 : Mi_ := (⟨"java/util/Objects", "checkIndex", "(II)I"⟩, prog_63_method_17_code, 2, (Option.some Jvm.ClassFile.FieldType.int), [], 2)
/- IM.init ()V -/
def K7_0 (E : En_) : List Ii_ := [I_aload 0, I_calli 0 [1] no_, I_vret]
def M7 : Mi_ := (⟨"java/util/ImmutableCollections$AbstractImmutableCollection", "<init>", "()V"⟩, prog_51_method_1_code, 1, (Option.none : Option Jvm.ClassFile.FieldType), [], 2)
/- IL.init ()V -/
def K8_0 (E : En_) : List Ii_ := [I_aload 0, I_calli 7 [1] no_, I_vret]
def M8 : Mi_ := (⟨"java/util/ImmutableCollections$AbstractImmutableList", "<init>", "()V"⟩, prog_52_method_1_code, 1, (Option.none : Option Jvm.ClassFile.FieldType), [], 3)
/- IL.contains (Ljava/lang/Object;)Z -/
def K9_0 (E : En_) : List Ii_ := [I_aload 0, I_aload 1, I_callv [(18, 12)] [1, 1] no_, I_iflt 1, I_push (1), I_goto 2]
def K9_1 (E : En_) : List Ii_ := [I_mask [false, false], I_push (0), I_goto 2]
def K9_2 (E : En_) : List Ii_ := [I_mask [false, false], I_nret .boolean]
def M9 : Mi_ := (⟨"java/util/ImmutableCollections$AbstractImmutableList", "contains", "(Ljava/lang/Object;)Z"⟩, prog_52_method_15_code, 2, (Option.some Jvm.ClassFile.FieldType.boolean), [], 5)
/- LI.init ([Ljava/lang/Object;Z)V -/
def K10_0 (E : En_) : List Ii_ := [I_aload 0, I_calli 8 [1] no_, I_aload 0, I_aload 1, I_putf [(18, 0)] (.array (.object "java/lang/Object")), I_aload 0, I_iload 2, I_putf [(18, 1)] (.boolean), I_vret]
def M10 : Mi_ := (⟨"java/util/ImmutableCollections$ListN", "<init>", "([Ljava/lang/Object;Z)V"⟩, prog_55_method_1_code, 3, (Option.none : Option Jvm.ClassFile.FieldType), [], 4)
/- LI.size ()I -/
def K11_0 (E : En_) : List Ii_ := [I_aload 0, I_getf [(18, 0)], I_alen, I_iret]
def M11 : Mi_ := (⟨"java/util/ImmutableCollections$ListN", "size", "()I"⟩, prog_55_method_3_code, 1, (Option.some Jvm.ClassFile.FieldType.int), [], 1)
/- LI.indexOf (Ljava/lang/Object;)I -/
def K12_0 (E : En_) : List Ii_ := [I_aload 0, I_getf [(18, 1)], I_ifne 1, I_aload 1, I_ifnonnull 1, I_stuck]
def K12_1 (E : En_) : List Ii_ := [I_mask [true, true, false, false], I_aload 0, I_getf [(18, 0)], I_astore 2, I_push (0), I_istore 3, I_goto 2]
def K12_2 (E : En_) : List Ii_ := [I_mask [false], I_iload 3, I_aload 2, I_alen, I_icge 4, I_aload 1, I_aload 2, I_iload 3, I_aald, I_call 5 [1, 1] no_, I_ifeq 3, I_iload 3, I_iret]
def K12_3 (E : En_) : List Ii_ := [I_mask [false], I_iinc 3 (1), I_goto 2]
def K12_4 (E : En_) : List Ii_ := [I_mask [false, false, false, false], I_push (-1), I_iret]
def M12 : Mi_ := (⟨"java/util/ImmutableCollections$ListN", "indexOf", "(Ljava/lang/Object;)I"⟩, prog_55_method_9_code, 4, (Option.some Jvm.ClassFile.FieldType.int), [], 4)
/- AP.newLength (III)I -/
def K13_0 (E : En_) : List Ii_ := [I_iload 0, I_iload 1, I_iload 2, I_max, I_iadd, I_istore 3, I_push (0), I_iload 3, I_icge 1, I_iload 3, I_push (2147483639), I_icgt 1, I_iload 3, I_iret]
def K13_1 (E : En_) : List Ii_ := [I_mask [true, true, false, false], I_iload 0, I_iload 1, I_stuck]
def M13 : Mi_ := (⟨"jdk/internal/util/ArraysSupport", "newLength", "(III)I"⟩, prog_67_method_27_code, 4, (Option.some Jvm.ClassFile.FieldType.int), [], 1)
/- MA.floorDiv (JJ)J -/
def K14_0 (E : En_) : List Ii_ := [I_lload 0, I_lload 2, I_ldiv, I_lstore 4, I_lload 0, I_lload 2, I_lxor, I_pushl (0), I_lcmp, I_ifge 1, I_lload 4, I_lload 2, I_lmul, I_lload 0, I_lcmp, I_ifeq 1, I_lload 4, I_pushl (1), I_lsub, I_lret]
def K14_1 (E : En_) : List Ii_ := [I_mask [false, false, false, false, true, false], I_lload 4, I_lret]
def M14 : Mi_ := (⟨"java/lang/Math", "floorDiv", "(JJ)J"⟩, prog_27_method_49_code, 6, (Option.some Jvm.ClassFile.FieldType.long), [], 1)
/- MA.floorDiv_2 (II)I -/
def K15_0 (E : En_) : List Ii_ := [I_iload 0, I_iload 1, I_idiv, I_istore 2, I_iload 0, I_iload 1, I_ixor, I_ifge 1, I_iload 2, I_iload 1, I_imul, I_iload 0, I_iceq 1, I_iload 2, I_push (1), I_isub, I_iret]
def K15_1 (E : En_) : List Ii_ := [I_mask [false, false], I_iload 2, I_iret]
def M15 : Mi_ := (⟨"java/lang/Math", "floorDiv", "(II)I"⟩, prog_27_method_47_code, 3, (Option.some Jvm.ClassFile.FieldType.int), [], 1)
/- AR.copyOf ([BI)[B -/
def K16_0 (E : En_) : List Ii_ := [I_iload 1, I_aload 0, I_alen, I_icne 1, I_aload 0, I_clone, I_cast [] [1], I_aret]
def K16_1 (E : En_) : List Ii_ := [I_mask [true, true, false], I_iload 1, I_newa 1, I_astore 2, I_aload 0, I_push (0), I_aload 2, I_push (0), I_aload 0, I_alen, I_iload 1, I_min, I_acopy cO_, I_aload 2, I_aret]
def M16 : Mi_ := (⟨"java/util/Arrays", "copyOf", "([BI)[B"⟩, prog_47_method_121_code, 3, (Option.some (Jvm.ClassFile.FieldType.array Jvm.ClassFile.FieldType.byte)), [], 1)
/- AR.copyOfRange ([BII)[B -/
def K17_0 (E : En_) : List Ii_ := [I_iload 1, I_ifne 1, I_iload 2, I_aload 0, I_alen, I_iceq 2, I_goto 1]
def K17_1 (E : En_) : List Ii_ := [I_aload 0, I_iload 1, I_iload 2, I_call 18 [0, 0, 1] no_, I_aret]
def K17_2 (E : En_) : List Ii_ := [I_mask [true, false, false], I_aload 0, I_clone, I_cast [] [1], I_aret]
def M17 : Mi_ := (⟨"java/util/Arrays", "copyOfRange", "([BII)[B"⟩, prog_47_method_132_code, 3, (Option.some (Jvm.ClassFile.FieldType.array Jvm.ClassFile.FieldType.byte)), [], 3)
/- AR.copyOfRangeByte ([BII)[B -/
def K18_0 (E : En_) : List Ii_ := [I_iload 1, I_iload 2, I_call 19 [0, 0] no_, I_iload 2, I_iload 1, I_isub, I_istore 3, I_iload 3, I_newa 1, I_astore 4, I_aload 0, I_iload 1, I_aload 4, I_push (0), I_aload 0, I_alen, I_iload 1, I_isub, I_iload 3, I_min, I_acopy cO_, I_aload 4, I_aret]
def M18 : Mi_ := (⟨"java/util/Arrays", "copyOfRangeByte", "([BII)[B"⟩, prog_47_method_133_code, 5, (Option.some (Jvm.ClassFile.FieldType.array Jvm.ClassFile.FieldType.byte)), [], 2)
/- AR.checkLength (II)V -/
def K19_0 (E : En_) : List Ii_ := [I_iload 1, I_iload 0, I_icge 1, I_stuck]
def K19_1 (E : En_) : List Ii_ := [I_mask [false, false], I_vret]
def M19 : Mi_ := (⟨"java/util/Arrays", "checkLength", "(II)V"⟩, prog_47_method_131_code, 2, (Option.none : Option Jvm.ClassFile.FieldType), [], 1)
/- AR.copyOf_2 ([Ljava/lang/Object;I)[Ljava/lang/Object; -/
def K20_0 (E : En_) : List Ii_ := [I_aload 0, I_iload 1, I_aload 0, I_getc E.2.2.2.2.2, I_call 21 [1, 0, 1] no_, I_aret]
def M20 : Mi_ := (⟨"java/util/Arrays", "copyOf", "([Ljava/lang/Object;I)[Ljava/lang/Object;"⟩, prog_47_method_119_code, 2, (Option.some (Jvm.ClassFile.FieldType.array (Jvm.ClassFile.FieldType.object "java/lang/Object"))), [], 2)
/- AR.copyOf_3 ([Ljava/lang/Object;ILjava/lang/Class;)[Ljava/lang/Object; -/
def K21_0 (E : En_) : List Ii_ := [I_aload 2, I_val (.ref E.2.2.2.2.2), I_ane 1, I_iload 1, I_newo, I_goto 2]
def K21_1 (E : En_) : List Ii_ := [I_mask [true, true, true, false], I_aload 2, I_stuck]
def K21_2 (E : En_) : List Ii_ := [I_mask [true, true, false, false], I_astore 3, I_aload 0, I_push (0), I_aload 3, I_push (0), I_aload 0, I_alen, I_iload 1, I_min, I_acopy cO_, I_aload 3, I_aret]
def M21 : Mi_ := (⟨"java/util/Arrays", "copyOf", "([Ljava/lang/Object;ILjava/lang/Class;)[Ljava/lang/Object;"⟩, prog_47_method_120_code, 4, (Option.some (Jvm.ClassFile.FieldType.array (Jvm.ClassFile.FieldType.object "java/lang/Object"))), [], 1)
/- SL.canEncode (C)Z -/
def K22_0 (E : En_) : List Ii_ := [I_iload 0, I_push (255), I_icgt 1, I_push (1), I_goto 2]
def K22_1 (E : En_) : List Ii_ := [I_mask [false], I_push (0), I_goto 2]
def K22_2 (E : En_) : List Ii_ := [I_mask [false], I_nret .boolean]
def M22 : Mi_ := (⟨"java/lang/StringLatin1", "canEncode", "(C)Z"⟩, prog_33_method_3_code, 1, (Option.some Jvm.ClassFile.FieldType.boolean), [], 1)
/- SL.equals ([B[B)Z -/
def K23_0 (E : En_) : List Ii_ := [I_aload 0, I_alen, I_aload 1, I_alen, I_icne 4, I_push (0), I_istore 2, I_goto 1]
def K23_1 (E : En_) : List Ii_ := [I_iload 2, I_aload 0, I_alen, I_icge 3, I_aload 0, I_iload 2, I_bald, I_aload 1, I_iload 2, I_bald, I_iceq 2, I_push (0), I_nret .boolean]
def K23_2 (E : En_) : List Ii_ := [I_iinc 2 (1), I_goto 1]
def K23_3 (E : En_) : List Ii_ := [I_mask [false, false, false], I_push (1), I_nret .boolean]
def K23_4 (E : En_) : List Ii_ := [I_mask [false, false, false], I_push (0), I_nret .boolean]
def M23 : Mi_ := (⟨"java/lang/StringLatin1", "equals", "([B[B)Z"⟩, prog_33_method_13_code, 3, (Option.some Jvm.ClassFile.FieldType.boolean), [], 1)
/- SL.charAt ([BI)C -/
def K24_0 (E : En_) : List Ii_ := [I_iload 1, I_aload 0, I_alen, I_call 82 [0, 0] no_, I_aload 0, I_iload 1, I_bald, I_push (255), I_iand, I_i2c, I_nret .char]
def M24 : Mi_ := (⟨"java/lang/StringLatin1", "charAt", "([BI)C"⟩, prog_33_method_2_code, 2, (Option.some Jvm.ClassFile.FieldType.char), [], 3)
/- A.init ()V -/
def K25_0 (E : En_) : List Ii_ := [I_aload 0, I_calli 2 [1] no_, I_aload 0, I_val (E.2.2.2.1 7), I_putf [(11, 1)] (.array (.object "java/lang/Object")), I_vret]
def M25 : Mi_ := (⟨"java/util/ArrayList", "<init>", "()V"⟩, prog_44_method_2_code, 1, (Option.none : Option Jvm.ClassFile.FieldType), [], 3)
/- A.size ()I -/
def K26_0 (E : En_) : List Ii_ := [I_aload 0, I_getf [(11, 2)], I_iret]
def M26 : Mi_ := (⟨"java/util/ArrayList", "size", "()I"⟩, prog_44_method_8_code, 1, (Option.some Jvm.ClassFile.FieldType.int), [], 1)
/- A.get (I)Ljava/lang/Object; -/
def K27_0 (E : En_) : List Ii_ := [I_iload 1, I_aload 0, I_getf [(11, 2)], I_call 6 [0, 0] no_, I_pop, I_aload 0, I_iload 1, I_callv [(11, 28)] [0, 1] no_, I_aret]
def M27 : Mi_ := (⟨"java/util/ArrayList", "get", "(I)Ljava/lang/Object;"⟩, prog_44_method_20_code, 2, (Option.some (Jvm.ClassFile.FieldType.object "java/lang/Object")), [], 3)
/- A.elementData (I)Ljava/lang/Object; -/
def K28_0 (E : En_) : List Ii_ := [I_aload 0, I_getf [(11, 1)], I_iload 1, I_aald, I_aret]
def M28 : Mi_ := (⟨"java/util/ArrayList", "elementData", "(I)Ljava/lang/Object;"⟩, prog_44_method_18_code, 2, (Option.some (Jvm.ClassFile.FieldType.object "java/lang/Object")), [], 1)
/- A.iterator ()Ljava/util/Iterator; -/
def K29_0 (E : En_) : List Ii_ := [I_new 12 [.int 0, .int 0, .int 0, .null], I_dup, I_aload 0, I_calli 46 [1, 1] no_, I_aret]
def M29 : Mi_ := (⟨"java/util/ArrayList", "iterator", "()Ljava/util/Iterator;"⟩, prog_44_method_55_code, 1, (Option.some (Jvm.ClassFile.FieldType.object "java/util/Iterator")), [], 2)
/- A.rangeCheckForAdd (I)V -/
def K30_0 (E : En_) : List Ii_ := [I_iload 1, I_aload 0, I_getf [(11, 2)], I_icgt 1, I_iload 1, I_ifge 2, I_goto 1]
def K30_1 (E : En_) : List Ii_ := [I_stuck]
def K30_2 (E : En_) : List Ii_ := [I_mask [false, false], I_vret]
def M30 : Mi_ := (⟨"java/util/ArrayList", "rangeCheckForAdd", "(I)V"⟩, prog_44_method_45_code, 2, (Option.none : Option Jvm.ClassFile.FieldType), [], 1)
/- A.add (Ljava/lang/Object;)Z -/
def K31_0 (E : En_) : List Ii_ := [I_aload 0, I_dup, I_getf [(11, 0), (13, 0)], I_push (1), I_iadd, I_putf [(11, 0), (13, 0)] (.int), I_aload 0, I_aload 1, I_aload 0, I_getf [(11, 1)], I_aload 0, I_getf [(11, 2)], I_callv [(11, 32)] [0, 1, 1, 1] no_, I_push (1), I_nret .boolean]
def M31 : Mi_ := (⟨"java/util/ArrayList", "add", "(Ljava/lang/Object;)Z"⟩, prog_44_method_25_code, 2, (Option.some Jvm.ClassFile.FieldType.boolean), [], 6)
/- A.add_2 (Ljava/lang/Object;[Ljava/lang/Object;I)V -/
def K32_0 (E : En_) : List Ii_ := [I_iload 3, I_aload 2, I_alen, I_icne 1, I_aload 0, I_callv [(11, 33)] [1] no_, I_astore 2, I_goto 1]
def K32_1 (E : En_) : List Ii_ := [I_aload 2, I_iload 3, I_aload 1, I_aast cO_, I_aload 0, I_iload 3, I_push (1), I_iadd, I_putf [(11, 2)] (.int), I_vret]
def M32 : Mi_ := (⟨"java/util/ArrayList", "add", "(Ljava/lang/Object;[Ljava/lang/Object;I)V"⟩, prog_44_method_24_code, 4, (Option.none : Option Jvm.ClassFile.FieldType), [], 5)
/- A.grow ()[Ljava/lang/Object; -/
def K33_0 (E : En_) : List Ii_ := [I_aload 0, I_aload 0, I_getf [(11, 2)], I_push (1), I_iadd, I_callv [(11, 34)] [0, 1] no_, I_aret]
def M33 : Mi_ := (⟨"java/util/ArrayList", "grow", "()[Ljava/lang/Object;"⟩, prog_44_method_7_code, 1, (Option.some (Jvm.ClassFile.FieldType.array (Jvm.ClassFile.FieldType.object "java/lang/Object"))), [], 4)
/- A.grow_2 (I)[Ljava/lang/Object; -/
def K34_0 (E : En_) : List Ii_ := [I_aload 0, I_getf [(11, 1)], I_alen, I_istore 2, I_iload 2, I_ifgt 1, I_aload 0, I_getf [(11, 1)], I_val (E.2.2.2.1 7), I_aeq 2, I_goto 1]
def K34_1 (E : En_) : List Ii_ := [I_mask [true, true, true, false], I_iload 2, I_iload 1, I_iload 2, I_isub, I_iload 2, I_push (1), I_ishr, I_call 13 [0, 0, 0] no_, I_istore 3, I_aload 0, I_aload 0, I_getf [(11, 1)], I_iload 3, I_call 20 [0, 1] no_, I_dup_x1, I_putf [(11, 1)] (.array (.object "java/lang/Object")), I_aret]
def K34_2 (E : En_) : List Ii_ := [I_mask [true, true, false, false], I_aload 0, I_push (10), I_iload 1, I_max, I_newo, I_dup_x1, I_putf [(11, 1)] (.array (.object "java/lang/Object")), I_aret]
def M34 : Mi_ := (⟨"java/util/ArrayList", "grow", "(I)[Ljava/lang/Object;"⟩, prog_44_method_6_code, 4, (Option.some (Jvm.ClassFile.FieldType.array (Jvm.ClassFile.FieldType.object "java/lang/Object"))), [], 3)
/- A.add_3 (ILjava/lang/Object;)V -/
def K35_0 (E : En_) : List Ii_ := [I_aload 0, I_iload 1, I_callv [(11, 30)] [0, 1] no_, I_aload 0, I_dup, I_getf [(11, 0), (13, 0)], I_push (1), I_iadd, I_putf [(11, 0), (13, 0)] (.int), I_aload 0, I_getf [(11, 2)], I_dup, I_istore 3, I_aload 0, I_getf [(11, 1)], I_dup, I_astore 4, I_alen, I_icne 1, I_aload 0, I_callv [(11, 33)] [1] no_, I_astore 4, I_goto 1]
def K35_1 (E : En_) : List Ii_ := [I_aload 4, I_iload 1, I_aload 4, I_iload 1, I_push (1), I_iadd, I_iload 3, I_iload 1, I_isub, I_acopy cO_, I_aload 4, I_iload 1, I_aload 2, I_aast cO_, I_aload 0, I_iload 3, I_push (1), I_iadd, I_putf [(11, 2)] (.int), I_vret]
def M35 : Mi_ := (⟨"java/util/ArrayList", "add", "(ILjava/lang/Object;)V"⟩, prog_44_method_26_code, 5, (Option.none : Option Jvm.ClassFile.FieldType), [], 5)
/- A.isEmpty ()Z -/
def K36_0 (E : En_) : List Ii_ := [I_aload 0, I_getf [(11, 2)], I_ifne 1, I_push (1), I_goto 2]
def K36_1 (E : En_) : List Ii_ := [I_mask [false], I_push (0), I_goto 2]
def K36_2 (E : En_) : List Ii_ := [I_mask [false], I_nret .boolean]
def M36 : Mi_ := (⟨"java/util/ArrayList", "isEmpty", "()Z"⟩, prog_44_method_9_code, 1, (Option.some Jvm.ClassFile.FieldType.boolean), [], 1)
/- PC.checkIndex (IILjava/util/function/BiFunction;)I -/
def K37_0 (E : En_) : List Ii_ := [I_iload 0, I_iflt 1, I_iload 0, I_iload 1, I_iclt 2, I_goto 1]
def K37_1 (E : En_) : List Ii_ := [I_aload 2, I_iload 0, I_iload 1, I_stuck]
def K37_2 (E : En_) : List Ii_ := [I_mask [true, false, false], I_iload 0, I_iret]
def M37 : Mi_ := (⟨"jdk/internal/util/Preconditions", "checkIndex", "(IILjava/util/function/BiFunction;)I"⟩, prog_68_method_11_code, 3, (Option.some Jvm.ClassFile.FieldType.int), [], 1)
/- TH.init (Ljava/lang/String;Ljava/lang/Throwable;ZZ)V -/
def K38_0 (E : En_) : List Ii_ := [I_aload 0, I_obj, I_aload 0, I_aload 0, I_putf [(9, 0)] (.object "java/lang/Throwable"), I_aload 0, I_val (E.2.2.2.1 8), I_putf [(9, 1)] (.array (.object "java/lang/StackTraceElement")), I_aload 0, I_val (E.2.2.2.1 9), I_putf [(9, 2)] (.object "java/util/List"), I_iload 4, I_ifeq 1, I_aload 0, I_stuck]
def K38_1 (E : En_) : List Ii_ := [I_mask [true, true, true, true, false], I_aload 0, I_null, I_putf [(9, 1)] (.array (.object "java/lang/StackTraceElement")), I_goto 2]
def K38_2 (E : En_) : List Ii_ := [I_mask [true, true, true, true, false], I_aload 0, I_aload 1, I_putf [(9, 3)] (.object "java/lang/String"), I_aload 0, I_aload 2, I_putf [(9, 0)] (.object "java/lang/Throwable"), I_iload 3, I_ifne 3, I_aload 0, I_null, I_putf [(9, 2)] (.object "java/util/List"), I_goto 3]
def K38_3 (E : En_) : List Ii_ := [I_mask [false, false, false, false, false], I_vret]
def M38 : Mi_ := (⟨"java/lang/Throwable", "<init>", "(Ljava/lang/String;Ljava/lang/Throwable;ZZ)V"⟩, prog_36_method_5_code, 5, (Option.none : Option Jvm.ClassFile.FieldType), [], 1)
/- EX.init (Ljava/lang/String;Ljava/lang/Throwable;ZZ)V -/
def K39_0 (E : En_) : List Ii_ := [I_aload 0, I_aload 1, I_aload 2, I_iload 3, I_iload 4, I_calli 38 [0, 0, 1, 1, 1] no_, I_vret]
def M39 : Mi_ := (⟨"java/lang/Exception", "<init>", "(Ljava/lang/String;Ljava/lang/Throwable;ZZ)V"⟩, prog_20_method_5_code, 5, (Option.none : Option Jvm.ClassFile.FieldType), [], 2)
/- NU.init ()V -/
def K40_0 (E : En_) : List Ii_ := [I_aload 0, I_obj, I_vret]
def M40 : Mi_ := (⟨"java/lang/Number", "<init>", "()V"⟩, prog_28_method_1_code, 1, (Option.none : Option Jvm.ClassFile.FieldType), [], 1)
/- IN.stringSize (I)I -/
def K41_0 (E : En_) : List Ii_ := [I_push (1), I_istore 1, I_iload 0, I_iflt 1, I_push (0), I_istore 1, I_iload 0, I_ineg, I_istore 0, I_goto 1]
def K41_1 (E : En_) : List Ii_ := [I_mask [true, true, false, false], I_push (-10), I_istore 2, I_push (1), I_istore 3, I_goto 2]
def K41_2 (E : En_) : List Ii_ := [I_iload 3, I_push (10), I_icge 4, I_iload 0, I_iload 2, I_icle 3, I_iload 3, I_iload 1, I_iadd, I_iret]
def K41_3 (E : En_) : List Ii_ := [I_push (10), I_iload 2, I_imul, I_istore 2, I_iinc 3 (1), I_goto 2]
def K41_4 (E : En_) : List Ii_ := [I_mask [false, true, false, false], I_push (10), I_iload 1, I_iadd, I_iret]
def M41 : Mi_ := (⟨"java/lang/Integer", "stringSize", "(I)I"⟩, prog_24_method_13_code, 4, (Option.some Jvm.ClassFile.FieldType.int), [], 1)
/- IN.getChars (II[B)I -/
def K42_0 (E : En_) : List Ii_ := [I_iload 1, I_istore 5, I_iload 0, I_ifge 1, I_push (1), I_goto 2]
def K42_1 (E : En_) : List Ii_ := [I_mask [true, false, true, false, false, true, false], I_push (0), I_goto 2]
def K42_2 (E : En_) : List Ii_ := [I_mask [true, false, true, false, false, true, false], I_istore 6, I_iload 6, I_ifne 3, I_iload 0, I_ineg, I_istore 0, I_goto 3]
def K42_3 (E : En_) : List Ii_ := [I_mask [true, false, true, false, false], I_iload 0, I_push (-100), I_icgt 4, I_iload 0, I_push (100), I_idiv, I_istore 3, I_iload 3, I_push (100), I_imul, I_iload 0, I_isub, I_istore 4, I_iload 3, I_istore 0, I_aload 2, I_iinc 5 (-1), I_iload 5, I_val (E.2.2.2.1 2), I_iload 4, I_bald, I_bast, I_aload 2, I_iinc 5 (-1), I_iload 5, I_val (E.2.2.2.1 3), I_iload 4, I_bald, I_bast, I_goto 3]
def K42_4 (E : En_) : List Ii_ := [I_mask [true, false, true, false, false], I_aload 2, I_iinc 5 (-1), I_iload 5, I_val (E.2.2.2.1 2), I_iload 0, I_ineg, I_bald, I_bast, I_iload 0, I_push (-9), I_icge 5, I_aload 2, I_iinc 5 (-1), I_iload 5, I_val (E.2.2.2.1 3), I_iload 0, I_ineg, I_bald, I_bast, I_goto 5]
def K42_5 (E : En_) : List Ii_ := [I_mask [false, false, true, false, false], I_iload 6, I_ifeq 6, I_aload 2, I_iinc 5 (-1), I_iload 5, I_push (45), I_bast, I_goto 6]
def K42_6 (E : En_) : List Ii_ := [I_mask [false, false, false, false, false, true, false], I_iload 5, I_iret]
def M42 : Mi_ := (⟨"java/lang/Integer", "getChars", "(II[B)I"⟩, prog_24_method_12_code, 7, (Option.some Jvm.ClassFile.FieldType.int), [], 1)
/- IN.intValue ()I -/
def K43_0 (E : En_) : List Ii_ := [I_aload 0, I_getf [(17, 0)], I_iret]
def M43 : Mi_ := (⟨"java/lang/Integer", "intValue", "()I"⟩, prog_24_method_27_code, 1, (Option.some Jvm.ClassFile.FieldType.int), [], 1)
/- IN.valueOf (I)Ljava/lang/Integer; -/
def K44_0 (E : En_) : List Ii_ := [I_iload 0, I_push (-128), I_iclt 1, I_iload 0, I_val (E.2.2.2.1 5), I_icgt 1, I_val (E.2.2.2.1 4), I_iload 0, I_push (128), I_iadd, I_aald, I_aret]
def K44_1 (E : En_) : List Ii_ := [I_new 17 [.int 0], I_dup, I_iload 0, I_calli 45 [0, 1] no_, I_aret]
def M44 : Mi_ := (⟨"java/lang/Integer", "valueOf", "(I)Ljava/lang/Integer;"⟩, prog_24_method_22_code, 1, (Option.some (Jvm.ClassFile.FieldType.object "java/lang/Integer")), [], 3)
/- IN.init (I)V -/
def K45_0 (E : En_) : List Ii_ := [I_aload 0, I_calli 40 [1] no_, I_aload 0, I_iload 1, I_putf [(17, 0)] (.int), I_vret]
def M45 : Mi_ := (⟨"java/lang/Integer", "<init>", "(I)V"⟩, prog_24_method_23_code, 2, (Option.none : Option Jvm.ClassFile.FieldType), [], 2)
/- AI.init (Ljava/util/ArrayList;)V -/
def K46_0 (E : En_) : List Ii_ := [I_aload 0, I_aload 1, I_putf [(12, 3)] (.object "java/util/ArrayList"), I_aload 0, I_obj, I_aload 0, I_push (-1), I_putf [(12, 1)] (.int), I_aload 0, I_aload 0, I_getf [(12, 3)], I_getf [(11, 0), (13, 0)], I_putf [(12, 2)] (.int), I_vret]
def M46 : Mi_ := (⟨"java/util/ArrayList$Itr", "<init>", "(Ljava/util/ArrayList;)V"⟩, prog_45_method_1_code, 2, (Option.none : Option Jvm.ClassFile.FieldType), [], 1)
/- AI.hasNext ()Z -/
def K47_0 (E : En_) : List Ii_ := [I_aload 0, I_getf [(12, 0)], I_aload 0, I_getf [(12, 3)], I_getf [(11, 2)], I_iceq 1, I_push (1), I_goto 2]
def K47_1 (E : En_) : List Ii_ := [I_mask [false], I_push (0), I_goto 2]
def K47_2 (E : En_) : List Ii_ := [I_mask [false], I_nret .boolean]
def M47 : Mi_ := (⟨"java/util/ArrayList$Itr", "hasNext", "()Z"⟩, prog_45_method_2_code, 1, (Option.some Jvm.ClassFile.FieldType.boolean), [], 1)
/- AI.next ()Ljava/lang/Object; -/
def K48_0 (E : En_) : List Ii_ := [I_aload 0, I_callv [(12, 49)] [1] no_, I_aload 0, I_getf [(12, 0)], I_istore 1, I_iload 1, I_aload 0, I_getf [(12, 3)], I_getf [(11, 2)], I_iclt 1, I_stuck]
def K48_1 (E : En_) : List Ii_ := [I_mask [true, true, false], I_aload 0, I_getf [(12, 3)], I_getf [(11, 1)], I_astore 2, I_iload 1, I_aload 2, I_alen, I_iclt 2, I_stuck]
def K48_2 (E : En_) : List Ii_ := [I_aload 0, I_iload 1, I_push (1), I_iadd, I_putf [(12, 0)] (.int), I_aload 2, I_aload 0, I_iload 1, I_dup_x1, I_putf [(12, 1)] (.int), I_aald, I_aret]
def M48 : Mi_ := (⟨"java/util/ArrayList$Itr", "next", "()Ljava/lang/Object;"⟩, prog_45_method_3_code, 3, (Option.some (Jvm.ClassFile.FieldType.object "java/lang/Object")), [], 2)
/- AI.checkForComodification ()V -/
def K49_0 (E : En_) : List Ii_ := [I_aload 0, I_getf [(12, 3)], I_getf [(11, 0), (13, 0)], I_aload 0, I_getf [(12, 2)], I_iceq 1, I_stuck]
def K49_1 (E : En_) : List Ii_ := [I_mask [false], I_vret]
def M49 : Mi_ := (⟨"java/util/ArrayList$Itr", "checkForComodification", "()V"⟩, prog_45_method_6_code, 1, (Option.none : Option Jvm.ClassFile.FieldType), [], 1)
/- AQ.init ()V -/
def K50_0 (E : En_) : List Ii_ := [I_aload 0, I_calli 2 [1] no_, I_vret]
def M50 : Mi_ := (⟨"java/util/AbstractSequentialList", "<init>", "()V"⟩, prog_43_method_1_code, 1, (Option.none : Option Jvm.ClassFile.FieldType), [], 3)
/- LN.init (Ljava/util/LinkedList$Node;Ljava/lang/Object;Ljava/util/LinkedList$Node;)V -/
def K51_0 (E : En_) : List Ii_ := [I_aload 0, I_obj, I_aload 0, I_aload 2, I_putf [(14, 0)] (.object "java/lang/Object"), I_aload 0, I_aload 3, I_putf [(14, 1)] (.object "java/util/LinkedList$Node"), I_aload 0, I_aload 1, I_putf [(14, 2)] (.object "java/util/LinkedList$Node"), I_vret]
def M51 : Mi_ := (⟨"java/util/LinkedList$Node", "<init>", "(Ljava/util/LinkedList$Node;Ljava/lang/Object;Ljava/util/LinkedList$Node;)V"⟩, prog_59_method_1_code, 4, (Option.none : Option Jvm.ClassFile.FieldType), [], 1)
/- LL.init ()V -/
def K52_0 (E : En_) : List Ii_ := [I_aload 0, I_calli 50 [1] no_, I_aload 0, I_push (0), I_putf [(13, 1)] (.int), I_vret]
def M52 : Mi_ := (⟨"java/util/LinkedList", "<init>", "()V"⟩, prog_57_method_1_code, 1, (Option.none : Option Jvm.ClassFile.FieldType), [], 4)
/- LL.size ()I -/
def K53_0 (E : En_) : List Ii_ := [I_aload 0, I_getf [(13, 1)], I_iret]
def M53 : Mi_ := (⟨"java/util/LinkedList", "size", "()I"⟩, prog_57_method_16_code, 1, (Option.some Jvm.ClassFile.FieldType.int), [], 1)
/- LL.linkLast (Ljava/lang/Object;)V -/
def K54_0 (E : En_) : List Ii_ := [I_aload 0, I_getf [(13, 3)], I_astore 2, I_new 14 [.null, .null, .null], I_dup, I_aload 2, I_aload 1, I_null, I_calli 51 [1, 1, 1, 1] no_, I_astore 3, I_aload 0, I_aload 3, I_putf [(13, 3)] (.object "java/util/LinkedList$Node"), I_aload 2, I_ifnonnull 1, I_aload 0, I_aload 3, I_putf [(13, 2)] (.object "java/util/LinkedList$Node"), I_goto 2]
def K54_1 (E : En_) : List Ii_ := [I_mask [true, false], I_aload 2, I_aload 3, I_putf [(14, 1)] (.object "java/util/LinkedList$Node"), I_goto 2]
def K54_2 (E : En_) : List Ii_ := [I_mask [true, false, false, false], I_aload 0, I_dup, I_getf [(13, 1)], I_push (1), I_iadd, I_putf [(13, 1)] (.int), I_aload 0, I_dup, I_getf [(11, 0), (13, 0)], I_push (1), I_iadd, I_putf [(11, 0), (13, 0)] (.int), I_vret]
def M54 : Mi_ := (⟨"java/util/LinkedList", "linkLast", "(Ljava/lang/Object;)V"⟩, prog_57_method_4_code, 4, (Option.none : Option Jvm.ClassFile.FieldType), [], 2)
/- LL.clear ()V -/
def K55_0 (E : En_) : List Ii_ := [I_aload 0, I_getf [(13, 2)], I_astore 1, I_goto 1]
def K55_1 (E : En_) : List Ii_ := [I_mask [true, true, false], I_aload 1, I_ifnull 2, I_aload 1, I_getf [(14, 1)], I_astore 2, I_aload 1, I_null, I_putf [(14, 0)] (.object "java/lang/Object"), I_aload 1, I_null, I_putf [(14, 1)] (.object "java/util/LinkedList$Node"), I_aload 1, I_null, I_putf [(14, 2)] (.object "java/util/LinkedList$Node"), I_aload 2, I_astore 1, I_goto 1]
def K55_2 (E : En_) : List Ii_ := [I_mask [true, false, false], I_aload 0, I_aload 0, I_null, I_dup_x1, I_putf [(13, 3)] (.object "java/util/LinkedList$Node"), I_putf [(13, 2)] (.object "java/util/LinkedList$Node"), I_aload 0, I_push (0), I_putf [(13, 1)] (.int), I_aload 0, I_dup, I_getf [(11, 0), (13, 0)], I_push (1), I_iadd, I_putf [(11, 0), (13, 0)] (.int), I_vret]
def M55 : Mi_ := (⟨"java/util/LinkedList", "clear", "()V"⟩, prog_57_method_21_code, 3, (Option.none : Option Jvm.ClassFile.FieldType), [], 1)
/- LL.removeFirst ()Ljava/lang/Object; -/
def K56_0 (E : En_) : List Ii_ := [I_aload 0, I_getf [(13, 2)], I_astore 1, I_aload 1, I_ifnonnull 1, I_stuck]
def K56_1 (E : En_) : List Ii_ := [I_aload 0, I_aload 1, I_callv [(13, 57)] [1, 1] no_, I_aret]
def M56 : Mi_ := (⟨"java/util/LinkedList", "removeFirst", "()Ljava/lang/Object;"⟩, prog_57_method_11_code, 2, (Option.some (Jvm.ClassFile.FieldType.object "java/lang/Object")), [], 2)
/- LL.unlinkFirst (Ljava/util/LinkedList$Node;)Ljava/lang/Object; -/
def K57_0 (E : En_) : List Ii_ := [I_aload 1, I_getf [(14, 0)], I_astore 2, I_aload 1, I_getf [(14, 1)], I_astore 3, I_aload 1, I_null, I_putf [(14, 0)] (.object "java/lang/Object"), I_aload 1, I_null, I_putf [(14, 1)] (.object "java/util/LinkedList$Node"), I_aload 0, I_aload 3, I_putf [(13, 2)] (.object "java/util/LinkedList$Node"), I_aload 3, I_ifnonnull 1, I_aload 0, I_null, I_putf [(13, 3)] (.object "java/util/LinkedList$Node"), I_goto 2]
def K57_1 (E : En_) : List Ii_ := [I_mask [true, false], I_aload 3, I_null, I_putf [(14, 2)] (.object "java/util/LinkedList$Node"), I_goto 2]
def K57_2 (E : En_) : List Ii_ := [I_mask [true, false, true, false], I_aload 0, I_dup, I_getf [(13, 1)], I_push (1), I_isub, I_putf [(13, 1)] (.int), I_aload 0, I_dup, I_getf [(11, 0), (13, 0)], I_push (1), I_iadd, I_putf [(11, 0), (13, 0)] (.int), I_aload 2, I_aret]
def M57 : Mi_ := (⟨"java/util/LinkedList", "unlinkFirst", "(Ljava/util/LinkedList$Node;)Ljava/lang/Object;"⟩, prog_57_method_6_code, 4, (Option.some (Jvm.ClassFile.FieldType.object "java/lang/Object")), [], 1)
/- LL.addLast (Ljava/lang/Object;)V -/
def K58_0 (E : En_) : List Ii_ := [I_aload 0, I_aload 1, I_callv [(13, 54)] [1, 1] no_, I_vret]
def M58 : Mi_ := (⟨"java/util/LinkedList", "addLast", "(Ljava/lang/Object;)V"⟩, prog_57_method_14_code, 2, (Option.none : Option Jvm.ClassFile.FieldType), [], 3)
/- LL.removeLast ()Ljava/lang/Object; -/
def K59_0 (E : En_) : List Ii_ := [I_aload 0, I_getf [(13, 3)], I_astore 1, I_aload 1, I_ifnonnull 1, I_stuck]
def K59_1 (E : En_) : List Ii_ := [I_aload 0, I_aload 1, I_callv [(13, 60)] [1, 1] no_, I_aret]
def M59 : Mi_ := (⟨"java/util/LinkedList", "removeLast", "()Ljava/lang/Object;"⟩, prog_57_method_12_code, 2, (Option.some (Jvm.ClassFile.FieldType.object "java/lang/Object")), [], 2)
/- LL.unlinkLast (Ljava/util/LinkedList$Node;)Ljava/lang/Object; -/
def K60_0 (E : En_) : List Ii_ := [I_aload 1, I_getf [(14, 0)], I_astore 2, I_aload 1, I_getf [(14, 2)], I_astore 3, I_aload 1, I_null, I_putf [(14, 0)] (.object "java/lang/Object"), I_aload 1, I_null, I_putf [(14, 2)] (.object "java/util/LinkedList$Node"), I_aload 0, I_aload 3, I_putf [(13, 3)] (.object "java/util/LinkedList$Node"), I_aload 3, I_ifnonnull 1, I_aload 0, I_null, I_putf [(13, 2)] (.object "java/util/LinkedList$Node"), I_goto 2]
def K60_1 (E : En_) : List Ii_ := [I_mask [true, false], I_aload 3, I_null, I_putf [(14, 1)] (.object "java/util/LinkedList$Node"), I_goto 2]
def K60_2 (E : En_) : List Ii_ := [I_mask [true, false, true, false], I_aload 0, I_dup, I_getf [(13, 1)], I_push (1), I_isub, I_putf [(13, 1)] (.int), I_aload 0, I_dup, I_getf [(11, 0), (13, 0)], I_push (1), I_iadd, I_putf [(11, 0), (13, 0)] (.int), I_aload 2, I_aret]
def M60 : Mi_ := (⟨"java/util/LinkedList", "unlinkLast", "(Ljava/util/LinkedList$Node;)Ljava/lang/Object;"⟩, prog_57_method_7_code, 4, (Option.some (Jvm.ClassFile.FieldType.object "java/lang/Object")), [], 1)
/- AS.init (I)V -/
def K61_0 (E : En_) : List Ii_ := [I_aload 0, I_obj, I_val (E.2.2.2.1 6), I_ifeq 1, I_aload 0, I_iload 1, I_newa 1, I_putf [(15, 0)] (.array .byte), I_aload 0, I_push (0), I_putf [(15, 1)] (.byte), I_goto 2]
def K61_1 (E : En_) : List Ii_ := [I_aload 0, I_iload 1, I_stuck]
def K61_2 (E : En_) : List Ii_ := [I_mask [false, false], I_vret]
def M61 : Mi_ := (⟨"java/lang/AbstractStringBuilder", "<init>", "(I)V"⟩, prog_14_method_2_code, 2, (Option.none : Option Jvm.ClassFile.FieldType), [], 1)
/- AS.append (C)Ljava/lang/AbstractStringBuilder; -/
def K62_0 (E : En_) : List Ii_ := [I_aload 0, I_aload 0, I_getf [(15, 3)], I_push (1), I_iadd, I_callv [(15, 63)] [0, 1] no_, I_aload 0, I_callv [(15, 65)] [1] no_, I_ifeq 1, I_iload 1, I_call 22 [0] no_, I_ifeq 1, I_aload 0, I_getf [(15, 0)], I_aload 0, I_dup, I_getf [(15, 3)], I_dup_x1, I_push (1), I_iadd, I_putf [(15, 3)] (.int), I_iload 1, I_i2b, I_bast, I_goto 3]
def K62_1 (E : En_) : List Ii_ := [I_aload 0, I_callv [(15, 65)] [1] no_, I_ifeq 2, I_aload 0, I_stuck]
def K62_2 (E : En_) : List Ii_ := [I_aload 0, I_getf [(15, 0)], I_aload 0, I_dup, I_getf [(15, 3)], I_dup_x1, I_push (1), I_iadd, I_putf [(15, 3)] (.int), I_iload 1, I_stuck]
def K62_3 (E : En_) : List Ii_ := [I_mask [true, false], I_aload 0, I_aret]
def M62 : Mi_ := (⟨"java/lang/AbstractStringBuilder", "append", "(C)Ljava/lang/AbstractStringBuilder;"⟩, prog_14_method_31_code, 2, (Option.some (Jvm.ClassFile.FieldType.object "java/lang/AbstractStringBuilder")), [], 4)
/- AS.ensureCapacityInternal (I)V -/
def K63_0 (E : En_) : List Ii_ := [I_aload 0, I_getf [(15, 0)], I_alen, I_aload 0, I_getf [(15, 1)], I_ishr, I_istore 2, I_iload 1, I_iload 2, I_isub, I_ifle 1, I_aload 0, I_aload 0, I_getf [(15, 0)], I_aload 0, I_iload 1, I_callv [(15, 64)] [0, 1] no_, I_aload 0, I_getf [(15, 1)], I_ishl, I_call 16 [0, 1] no_, I_putf [(15, 0)] (.array .byte), I_goto 1]
def K63_1 (E : En_) : List Ii_ := [I_mask [false, false, false], I_vret]
def M63 : Mi_ := (⟨"java/lang/AbstractStringBuilder", "ensureCapacityInternal", "(I)V"⟩, prog_14_method_9_code, 3, (Option.none : Option Jvm.ClassFile.FieldType), [], 3)
/- AS.newCapacity (I)I -/
def K64_0 (E : En_) : List Ii_ := [I_aload 0, I_getf [(15, 0)], I_alen, I_istore 2, I_iload 1, I_aload 0, I_getf [(15, 1)], I_ishl, I_istore 3, I_iload 3, I_iload 2, I_isub, I_istore 4, I_iload 2, I_iload 4, I_iload 2, I_push (2), I_aload 0, I_getf [(15, 1)], I_ishl, I_iadd, I_call 13 [0, 0, 0] no_, I_istore 5, I_iload 5, I_push (2147483647), I_icne 1, I_stuck]
def K64_1 (E : En_) : List Ii_ := [I_mask [true, false, false, false, false], I_iload 5, I_aload 0, I_getf [(15, 1)], I_ishr, I_iret]
def M64 : Mi_ := (⟨"java/lang/AbstractStringBuilder", "newCapacity", "(I)I"⟩, prog_14_method_10_code, 6, (Option.some Jvm.ClassFile.FieldType.int), [], 2)
/- AS.isLatin1 ()Z -/
def K65_0 (E : En_) : List Ii_ := [I_val (E.2.2.2.1 6), I_ifeq 1, I_aload 0, I_getf [(15, 1)], I_ifne 1, I_push (1), I_goto 2]
def K65_1 (E : En_) : List Ii_ := [I_mask [false], I_push (0), I_goto 2]
def K65_2 (E : En_) : List Ii_ := [I_mask [false], I_nret .boolean]
def M65 : Mi_ := (⟨"java/lang/AbstractStringBuilder", "isLatin1", "()Z"⟩, prog_14_method_68_code, 1, (Option.some Jvm.ClassFile.FieldType.boolean), [], 1)
/- AS.getValue ()[B -/
def K66_0 (E : En_) : List Ii_ := [I_aload 0, I_getf [(15, 0)], I_aret]
def M66 : Mi_ := (⟨"java/lang/AbstractStringBuilder", "getValue", "()[B"⟩, prog_14_method_64_code, 1, (Option.some (Jvm.ClassFile.FieldType.array Jvm.ClassFile.FieldType.byte)), [], 1)
/- AS.length ()I -/
def K67_0 (E : En_) : List Ii_ := [I_aload 0, I_getf [(15, 3)], I_iret]
def M67 : Mi_ := (⟨"java/lang/AbstractStringBuilder", "length", "()I"⟩, prog_14_method_6_code, 1, (Option.some Jvm.ClassFile.FieldType.int), [], 1)
/- AS.append_2 (I)Ljava/lang/AbstractStringBuilder; -/
def K68_0 (E : En_) : List Ii_ := [I_aload 0, I_getf [(15, 3)], I_istore 2, I_iload 2, I_iload 1, I_call 41 [0] no_, I_iadd, I_istore 3, I_aload 0, I_iload 3, I_callv [(15, 63)] [0, 1] no_, I_aload 0, I_callv [(15, 65)] [1] no_, I_ifeq 1, I_iload 1, I_iload 3, I_aload 0, I_getf [(15, 0)], I_call 42 [1, 0, 0] no_, I_pop, I_goto 2]
def K68_1 (E : En_) : List Ii_ := [I_iload 1, I_iload 2, I_iload 3, I_aload 0, I_getf [(15, 0)], I_stuck]
def K68_2 (E : En_) : List Ii_ := [I_mask [true, false, false], I_aload 0, I_iload 3, I_putf [(15, 3)] (.int), I_aload 0, I_aret]
def M68 : Mi_ := (⟨"java/lang/AbstractStringBuilder", "append", "(I)Ljava/lang/AbstractStringBuilder;"⟩, prog_14_method_32_code, 4, (Option.some (Jvm.ClassFile.FieldType.object "java/lang/AbstractStringBuilder")), [], 4)
/- AS.append_3 (Ljava/lang/String;)Ljava/lang/AbstractStringBuilder; -/
def K69_0 (E : En_) : List Ii_ := [I_aload 1, I_ifnonnull 1, I_aload 0, I_stuck]
def K69_1 (E : En_) : List Ii_ := [I_mask [true, true, false], I_aload 1, I_callv [(16, 85)] [1] no_, I_istore 2, I_aload 0, I_aload 0, I_getf [(15, 3)], I_iload 2, I_iadd, I_callv [(15, 63)] [0, 1] no_, I_aload 0, I_aload 0, I_getf [(15, 3)], I_aload 1, I_callv [(15, 70)] [1, 0, 1] no_, I_aload 0, I_dup, I_getf [(15, 3)], I_iload 2, I_iadd, I_putf [(15, 3)] (.int), I_aload 0, I_aret]
def M69 : Mi_ := (⟨"java/lang/AbstractStringBuilder", "append", "(Ljava/lang/String;)Ljava/lang/AbstractStringBuilder;"⟩, prog_14_method_22_code, 3, (Option.some (Jvm.ClassFile.FieldType.object "java/lang/AbstractStringBuilder")), [], 4)
/- AS.putStringAt (ILjava/lang/String;)V -/
def K70_0 (E : En_) : List Ii_ := [I_aload 0, I_aload 2, I_callv [(15, 71)] [1, 1] no_, I_aload 2, I_aload 0, I_getf [(15, 0)], I_iload 1, I_aload 0, I_getf [(15, 1)], I_callv [(16, 87)] [0, 0, 1, 1] no_, I_vret]
def M70 : Mi_ := (⟨"java/lang/AbstractStringBuilder", "putStringAt", "(ILjava/lang/String;)V"⟩, prog_14_method_73_code, 3, (Option.none : Option Jvm.ClassFile.FieldType), [], 3)
/- AS.inflateIfNeededFor (Ljava/lang/String;)V -/
def K71_0 (E : En_) : List Ii_ := [I_val (E.2.2.2.1 6), I_ifeq 1, I_aload 0, I_getf [(15, 1)], I_aload 1, I_callv [(16, 86)] [1] no_, I_iceq 1, I_aload 0, I_stuck]
def K71_1 (E : En_) : List Ii_ := [I_mask [false, false], I_vret]
def M71 : Mi_ := (⟨"java/lang/AbstractStringBuilder", "inflateIfNeededFor", "(Ljava/lang/String;)V"⟩, prog_14_method_71_code, 2, (Option.none : Option Jvm.ClassFile.FieldType), [], 2)
/- AS.setLength (I)V -/
def K72_0 (E : En_) : List Ii_ := [I_iload 1, I_ifge 1, I_stuck]
def K72_1 (E : En_) : List Ii_ := [I_aload 0, I_iload 1, I_callv [(15, 63)] [0, 1] no_, I_aload 0, I_getf [(15, 3)], I_iload 1, I_icge 3, I_aload 0, I_callv [(15, 65)] [1] no_, I_ifeq 2, I_aload 0, I_getf [(15, 0)], I_aload 0, I_getf [(15, 3)], I_iload 1, I_stuck]
def K72_2 (E : En_) : List Ii_ := [I_aload 0, I_getf [(15, 0)], I_aload 0, I_getf [(15, 3)], I_iload 1, I_stuck]
def K72_3 (E : En_) : List Ii_ := [I_aload 0, I_getf [(15, 3)], I_iload 1, I_icle 4, I_aload 0, I_push (1), I_putf [(15, 2)] (.boolean), I_goto 4]
def K72_4 (E : En_) : List Ii_ := [I_aload 0, I_iload 1, I_putf [(15, 3)] (.int), I_vret]
def M72 : Mi_ := (⟨"java/lang/AbstractStringBuilder", "setLength", "(I)V"⟩, prog_14_method_13_code, 2, (Option.none : Option Jvm.ClassFile.FieldType), [], 4)
/- AS.charAt (I)C -/
def K73_0 (E : En_) : List Ii_ := [I_aload 0, I_getf [(15, 1)], I_istore 2, I_aload 0, I_getf [(15, 0)], I_astore 3, I_aload 0, I_getf [(15, 3)], I_aload 3, I_alen, I_iload 2, I_ishr, I_min, I_istore 4, I_iload 1, I_iload 4, I_call 82 [0, 0] no_, I_iload 2, I_ifne 1, I_aload 3, I_iload 1, I_bald, I_push (255), I_iand, I_i2c, I_nret .char]
def K73_1 (E : En_) : List Ii_ := [I_mask [false, true, false, true, false], I_aload 3, I_iload 1, I_stuck]
def M73 : Mi_ := (⟨"java/lang/AbstractStringBuilder", "charAt", "(I)C"⟩, prog_14_method_14_code, 5, (Option.some Jvm.ClassFile.FieldType.char), [], 3)
/- SB.init ()V -/
def K74_0 (E : En_) : List Ii_ := [I_aload 0, I_push (16), I_calli 61 [0, 1] no_, I_vret]
def M74 : Mi_ := (⟨"java/lang/StringBuilder", "<init>", "()V"⟩, prog_31_method_1_code, 1, (Option.none : Option Jvm.ClassFile.FieldType), [], 2)
/- SB.append (C)Ljava/lang/StringBuilder; -/
def K75_0 (E : En_) : List Ii_ := [I_aload 0, I_iload 1, I_callv [(15, 62)] [0, 1] no_, I_pop, I_aload 0, I_aret]
def M75 : Mi_ := (⟨"java/lang/StringBuilder", "append", "(C)Ljava/lang/StringBuilder;"⟩, prog_31_method_14_code, 2, (Option.some (Jvm.ClassFile.FieldType.object "java/lang/StringBuilder")), [], 5)
/- SB.toString ()Ljava/lang/String; -/
def K76_0 (E : En_) : List Ii_ := [I_new 16 [.null, .int 0, .int 0, .int 0], I_dup, I_aload 0, I_calli 83 [1, 1] no_, I_aret]
def M76 : Mi_ := (⟨"java/lang/StringBuilder", "toString", "()Ljava/lang/String;"⟩, prog_31_method_42_code, 1, (Option.some (Jvm.ClassFile.FieldType.object "java/lang/String")), [], 6)
/- SB.length ()I -/
def K77_0 (E : En_) : List Ii_ := [I_aload 0, I_callv [(15, 67)] [1] no_, I_iret]
def M77 : Mi_ := (⟨"java/lang/StringBuilder", "length", "()I"⟩, prog_31_method_93_code, 1, (Option.some Jvm.ClassFile.FieldType.int), [], 2)
/- SB.append_2 (I)Ljava/lang/StringBuilder; -/
def K78_0 (E : En_) : List Ii_ := [I_aload 0, I_iload 1, I_callv [(15, 68)] [0, 1] no_, I_pop, I_aload 0, I_aret]
def M78 : Mi_ := (⟨"java/lang/StringBuilder", "append", "(I)Ljava/lang/StringBuilder;"⟩, prog_31_method_15_code, 2, (Option.some (Jvm.ClassFile.FieldType.object "java/lang/StringBuilder")), [], 5)
/- SB.append_3 (Ljava/lang/String;)Ljava/lang/StringBuilder; -/
def K79_0 (E : En_) : List Ii_ := [I_aload 0, I_aload 1, I_callv [(15, 69)] [1, 1] no_, I_pop, I_aload 0, I_aret]
def M79 : Mi_ := (⟨"java/lang/StringBuilder", "append", "(Ljava/lang/String;)Ljava/lang/StringBuilder;"⟩, prog_31_method_7_code, 2, (Option.some (Jvm.ClassFile.FieldType.object "java/lang/StringBuilder")), [], 5)
/- SB.setLength (I)V -/
def K80_0 (E : En_) : List Ii_ := [I_aload 0, I_iload 1, I_callv [(15, 72)] [0, 1] no_, I_vret]
def M80 : Mi_ := (⟨"java/lang/StringBuilder", "setLength", "(I)V"⟩, prog_31_method_89_code, 2, (Option.none : Option Jvm.ClassFile.FieldType), [], 5)
/- SB.charAt (I)C -/
def K81_0 (E : En_) : List Ii_ := [I_aload 0, I_iload 1, I_callv [(15, 73)] [0, 1] no_, I_nret .char]
def M81 : Mi_ := (⟨"java/lang/StringBuilder", "charAt", "(I)C"⟩, prog_31_method_88_code, 2, (Option.some Jvm.ClassFile.FieldType.char), [], 4)
/- ST.checkIndex (II)V -/
def K82_0 (E : En_) : List Ii_ := [I_iload 0, I_iload 1, I_val (E.2.2.2.1 10), I_call 37 [1, 0, 0] no_, I_pop, I_vret]
def M82 : Mi_ := (⟨"java/lang/String", "checkIndex", "(II)V"⟩, prog_30_method_155_code, 2, (Option.none : Option Jvm.ClassFile.FieldType), [], 2)
/- ST.init (Ljava/lang/StringBuilder;)V -/
def K83_0 (E : En_) : List Ii_ := [I_aload 0, I_aload 1, I_null, I_calli 84 [1, 1, 1] no_, I_vret]
def M83 : Mi_ := (⟨"java/lang/String", "<init>", "(Ljava/lang/StringBuilder;)V"⟩, prog_30_method_53_code, 2, (Option.none : Option Jvm.ClassFile.FieldType), [], 5)
/- ST.init_2 (Ljava/lang/AbstractStringBuilder;Ljava/lang/Void;)V -/
def K84_0 (E : En_) : List Ii_ := [I_aload 0, I_obj, I_aload 1, I_callv [(15, 66)] [1] no_, I_astore 3, I_aload 1, I_callv [(15, 77)] [1] no_, I_istore 4, I_aload 1, I_callv [(15, 65)] [1] no_, I_ifeq 1, I_aload 0, I_push (0), I_putf [(16, 1)] (.byte), I_aload 0, I_aload 3, I_push (0), I_iload 4, I_call 17 [0, 0, 1] no_, I_putf [(16, 0)] (.array .byte), I_goto 3]
def K84_1 (E : En_) : List Ii_ := [I_mask [true, true, false], I_val (E.2.2.2.1 6), I_ifeq 2, I_aload 1, I_getf [(15, 2)], I_ifeq 2, I_aload 0, I_aload 3, I_push (0), I_iload 4, I_stuck]
def K84_2 (E : En_) : List Ii_ := [I_mask [true, false, false], I_aload 0, I_push (1), I_putf [(16, 1)] (.byte), I_aload 0, I_aload 3, I_push (0), I_iload 4, I_push (1), I_ishl, I_call 17 [0, 0, 1] no_, I_putf [(16, 0)] (.array .byte), I_goto 3]
def K84_3 (E : En_) : List Ii_ := [I_mask [false, false, false, false, false], I_vret]
def M84 : Mi_ := (⟨"java/lang/String", "<init>", "(Ljava/lang/AbstractStringBuilder;Ljava/lang/Void;)V"⟩, prog_30_method_150_code, 5, (Option.none : Option Jvm.ClassFile.FieldType), [], 4)
/- ST.length ()I -/
def K85_0 (E : En_) : List Ii_ := [I_aload 0, I_getf [(16, 0)], I_alen, I_aload 0, I_callv [(16, 86)] [1] no_, I_ishr, I_iret]
def M85 : Mi_ := (⟨"java/lang/String", "length", "()I"⟩, prog_30_method_54_code, 1, (Option.some Jvm.ClassFile.FieldType.int), [], 2)
/- ST.coder ()B -/
def K86_0 (E : En_) : List Ii_ := [I_val (E.2.2.2.1 6), I_ifeq 1, I_aload 0, I_getf [(16, 1)], I_goto 2]
def K86_1 (E : En_) : List Ii_ := [I_mask [false], I_push (1), I_goto 2]
def K86_2 (E : En_) : List Ii_ := [I_mask [false], I_nret .byte]
def M86 : Mi_ := (⟨"java/lang/String", "coder", "()B"⟩, prog_30_method_152_code, 1, (Option.some Jvm.ClassFile.FieldType.byte), [], 1)
/- ST.getBytes ([BIB)V -/
def K87_0 (E : En_) : List Ii_ := [I_aload 0, I_callv [(16, 86)] [1] no_, I_iload 3, I_icne 1, I_aload 0, I_getf [(16, 0)], I_push (0), I_aload 1, I_iload 2, I_iload 3, I_ishl, I_aload 0, I_getf [(16, 0)], I_alen, I_acopy cO_, I_goto 2]
def K87_1 (E : En_) : List Ii_ := [I_mask [true, true, true, false], I_aload 0, I_getf [(16, 0)], I_push (0), I_aload 1, I_iload 2, I_aload 0, I_getf [(16, 0)], I_alen, I_stuck]
def K87_2 (E : En_) : List Ii_ := [I_mask [false, false, false, false], I_vret]
def M87 : Mi_ := (⟨"java/lang/String", "getBytes", "([BIB)V"⟩, prog_30_method_147_code, 4, (Option.none : Option Jvm.ClassFile.FieldType), [], 2)
/- ST.equals (Ljava/lang/Object;)Z -/
def K88_0 (E : En_) : List Ii_ := [I_aload 0, I_aload 1, I_ane 1, I_push (1), I_nret .boolean]
def K88_1 (E : En_) : List Ii_ := [I_mask [true, true, false], I_aload 1, I_inst [16], I_ifeq 3, I_aload 1, I_cast [16] [], I_astore 2, I_val (E.2.2.2.1 6), I_ifeq 2, I_aload 0, I_getf [(16, 1)], I_aload 2, I_getf [(16, 1)], I_icne 3, I_goto 2]
def K88_2 (E : En_) : List Ii_ := [I_mask [true, false], I_aload 0, I_getf [(16, 0)], I_aload 2, I_getf [(16, 0)], I_call 23 [1, 1] no_, I_ifeq 3, I_push (1), I_goto 4]
def K88_3 (E : En_) : List Ii_ := [I_mask [false, false, false], I_push (0), I_goto 4]
def K88_4 (E : En_) : List Ii_ := [I_mask [false, false, false], I_nret .boolean]
def M88 : Mi_ := (⟨"java/lang/String", "equals", "(Ljava/lang/Object;)Z"⟩, prog_30_method_66_code, 3, (Option.some Jvm.ClassFile.FieldType.boolean), [], 2)
/- ST.charAt (I)C -/
def K89_0 (E : En_) : List Ii_ := [I_aload 0, I_callv [(16, 90)] [1] no_, I_ifeq 1, I_aload 0, I_getf [(16, 0)], I_iload 1, I_call 24 [0, 1] no_, I_nret .char]
def K89_1 (E : En_) : List Ii_ := [I_aload 0, I_getf [(16, 0)], I_iload 1, I_stuck]
def M89 : Mi_ := (⟨"java/lang/String", "charAt", "(I)C"⟩, prog_30_method_56_code, 2, (Option.some Jvm.ClassFile.FieldType.char), [], 4)
/- ST.isLatin1 ()Z -/
def K90_0 (E : En_) : List Ii_ := [I_val (E.2.2.2.1 6), I_ifeq 1, I_aload 0, I_getf [(16, 1)], I_ifne 1, I_push (1), I_goto 2]
def K90_1 (E : En_) : List Ii_ := [I_mask [false], I_push (0), I_goto 2]
def K90_2 (E : En_) : List Ii_ := [I_mask [false], I_nret .boolean]
def M90 : Mi_ := (⟨"java/lang/String", "isLatin1", "()Z"⟩, prog_30_method_154_code, 1, (Option.some Jvm.ClassFile.FieldType.boolean), [], 1)
/- LS.of (Ljava/lang/Object;Ljava/lang/Object;Ljava/lang/Object;Ljava/lang/Object;Ljava/lang/Object;)Ljava/util/List; -/
def K91_0 (E : En_) : List Ii_ := [I_push (5), I_newo, I_dup, I_push (0), I_aload 0, I_aast cO_, I_dup, I_push (1), I_aload 1, I_aast cO_, I_dup, I_push (2), I_aload 2, I_aast cO_, I_dup, I_push (3), I_aload 3, I_aast cO_, I_dup, I_push (4), I_aload 4, I_aast cO_, I_call 3 [1] no_, I_aret]
def M91 : Mi_ := (⟨"java/util/List", "of", "(Ljava/lang/Object;Ljava/lang/Object;Ljava/lang/Object;Ljava/lang/Object;Ljava/lang/Object;)Ljava/util/List;"⟩, prog_60_method_41_code, 5, (Option.some (Jvm.ClassFile.FieldType.object "java/util/List")), [], 6)
/- LS.of_2 (Ljava/lang/Object;Ljava/lang/Object;Ljava/lang/Object;Ljava/lang/Object;Ljava/lang/Object;Ljava/lang/Object;)Ljava/util/List; -/
def K92_0 (E : En_) : List Ii_ := [I_push (6), I_newo, I_dup, I_push (0), I_aload 0, I_aast cO_, I_dup, I_push (1), I_aload 1, I_aast cO_, I_dup, I_push (2), I_aload 2, I_aast cO_, I_dup, I_push (3), I_aload 3, I_aast cO_, I_dup, I_push (4), I_aload 4, I_aast cO_, I_dup, I_push (5), I_aload 5, I_aast cO_, I_call 3 [1] no_, I_aret]
def M92 : Mi_ := (⟨"java/util/List", "of", "(Ljava/lang/Object;Ljava/lang/Object;Ljava/lang/Object;Ljava/lang/Object;Ljava/lang/Object;Ljava/lang/Object;)Ljava/util/List;"⟩, prog_60_method_42_code, 6, (Option.some (Jvm.ClassFile.FieldType.object "java/util/List")), [], 6)
/- T.init ()V -/
def K93_0 (E : En_) : List Ii_ := [I_aload 0, I_obj, I_aload 0, I_push (308), I_newa 0, I_putf [(10, 1)] (.array .int), I_aload 0, I_push (308), I_newa 0, I_putf [(10, 2)] (.array .int), I_aload 0, I_push (308), I_newa 0, I_putf [(10, 3)] (.array .int), I_aload 0, I_push (308), I_newa 0, I_putf [(10, 4)] (.array .int), I_aload 0, I_push (308), I_newa 0, I_putf [(10, 5)] (.array .int), I_aload 0, I_push (3080), I_newa 0, I_putf [(10, 6)] (.array .int), I_aload 0, I_push (66), I_newa 0, I_putf [(10, 9)] (.array .int), I_aload 0, I_push (144), I_newa 0, I_putf [(10, 11)] (.array .int), I_aload 0, I_push (144), I_newa 0, I_putf [(10, 12)] (.array .int), I_aload 0, I_push (144), I_newa 0, I_putf [(10, 13)] (.array .int), I_aload 0, I_push (144), I_newa 2, I_putf [(10, 14)] (.array .boolean), I_aload 0, I_push (12), I_newa 0, I_putf [(10, 15)] (.array .int), I_aload 0, I_push (12), I_newa 0, I_putf [(10, 16)] (.array .int), I_aload 0, I_push (12), I_newa 0, I_putf [(10, 18)] (.array .int), I_aload 0, I_push (900), I_newa 1, I_putf [(10, 19)] (.array .byte), I_aload 0, I_push (-1), I_putf [(10, 28)] (.int), I_aload 0, I_push (400), I_newa 1, I_putf [(10, 30)] (.array .byte), I_aload 0, I_callv [(10, 94)] [1] no_, I_vret]
def M93 : Mi_ := (⟨"SpiritWallModel", "<init>", "()V"⟩, prog_12_method_1_code, 1, (Option.none : Option Jvm.ClassFile.FieldType), [], 2)
/- T.resets ()V -/
def K94_0 (E : En_) : List Ii_ := [I_push (0), I_istore 1, I_goto 1]
def K94_1 (E : En_) : List Ii_ := [I_iload 1, I_push (308), I_icge 2, I_aload 0, I_getf [(10, 1)], I_iload 1, I_push (0), I_iast, I_iinc 1 (1), I_goto 1]
def K94_2 (E : En_) : List Ii_ := [I_mask [true, false], I_aload 0, I_getf [(10, 1)], I_push (2), I_push (1000), I_iast, I_aload 0, I_getf [(10, 1)], I_push (5), I_push (10), I_iast, I_vret]
def M94 : Mi_ := (⟨"SpiritWallModel", "resets", "()V"⟩, prog_12_method_7_code, 2, (Option.none : Option Jvm.ClassFile.FieldType), [], 1)
/- T.thrown ()I -/
def K95_0 (E : En_) : List Ii_ := [I_aload 0, I_getf [(10, 0)], I_iret]
def M95 : Mi_ := (⟨"SpiritWallModel", "thrown", "()I"⟩, prog_12_method_2_code, 1, (Option.some Jvm.ClassFile.FieldType.int), [], 1)
/- T.undo ()I -/
def K96_0 (E : En_) : List Ii_ := [I_aload 0, I_aload 0, I_getf [(10, 7)], I_ifle 1, I_push (1), I_goto 2]
def K96_1 (E : En_) : List Ii_ := [I_mask [true, false], I_push (0), I_goto 2]
def K96_2 (E : En_) : List Ii_ := [I_mask [true, false], I_callv [(10, 97)] [0, 1] no_, I_ifne 3, I_push (0), I_iret]
def K96_3 (E : En_) : List Ii_ := [I_mask [true, false], I_aload 0, I_aload 0, I_getf [(10, 7)], I_push (1), I_isub, I_putf [(10, 7)] (.int), I_push (0), I_istore 1, I_goto 4]
def K96_4 (E : En_) : List Ii_ := [I_iload 1, I_push (308), I_icge 5, I_aload 0, I_getf [(10, 1)], I_iload 1, I_aload 0, I_getf [(10, 6)], I_push (308), I_aload 0, I_getf [(10, 7)], I_imul, I_iload 1, I_iadd, I_iald, I_iast, I_iinc 1 (1), I_goto 4]
def K96_5 (E : En_) : List Ii_ := [I_mask [true, false], I_aload 0, I_getf [(10, 7)], I_iret]
def M96 : Mi_ := (⟨"SpiritWallModel", "undo", "()I"⟩, prog_12_method_10_code, 2, (Option.some Jvm.ClassFile.FieldType.int), [], 2)
/- T.is (Z)Z -/
def K97_0 (E : En_) : List Ii_ := [I_aload 0, I_iload 1, I_ifeq 1, I_push (0), I_goto 2]
def K97_1 (E : En_) : List Ii_ := [I_mask [false], I_push (1), I_goto 2]
def K97_2 (E : En_) : List Ii_ := [I_mask [false], I_putf [(10, 0)] (.int), I_iload 1, I_nret .boolean]
def M97 : Mi_ := (⟨"SpiritWallModel", "is", "(Z)Z"⟩, prog_12_method_3_code, 2, (Option.some Jvm.ClassFile.FieldType.boolean), [], 1)
/- T.saveState ()I -/
def K98_0 (E : En_) : List Ii_ := [I_aload 0, I_push (0), I_putf [(10, 0)] (.int), I_aload 0, I_getf [(10, 1)], I_aload 0, I_getf [(10, 5)], I_call 99 [1, 1] no_, I_aload 0, I_push (1), I_putf [(10, 8)] (.boolean), I_aload 0, I_getf [(10, 1)], I_push (1), I_iald, I_iret]
def M98 : Mi_ := (⟨"SpiritWallModel", "saveState", "()I"⟩, prog_12_method_11_code, 1, (Option.some Jvm.ClassFile.FieldType.int), [], 2)
/- T.copies ([I[I)V -/
def K99_0 (E : En_) : List Ii_ := [I_push (0), I_istore 2, I_goto 1]
def K99_1 (E : En_) : List Ii_ := [I_iload 2, I_push (308), I_icge 2, I_aload 1, I_iload 2, I_aload 0, I_iload 2, I_iald, I_iast, I_iinc 2 (1), I_goto 1]
def K99_2 (E : En_) : List Ii_ := [I_mask [false, false, false], I_vret]
def M99 : Mi_ := (⟨"SpiritWallModel", "copies", "([I[I)V"⟩, prog_12_method_6_code, 3, (Option.none : Option Jvm.ClassFile.FieldType), [], 1)
/- T.restoreState ()I -/
def K100_0 (E : En_) : List Ii_ := [I_aload 0, I_aload 0, I_getf [(10, 8)], I_callv [(10, 97)] [0, 1] no_, I_ifne 1, I_push (0), I_iret]
def K100_1 (E : En_) : List Ii_ := [I_aload 0, I_getf [(10, 5)], I_aload 0, I_getf [(10, 1)], I_call 99 [1, 1] no_, I_aload 0, I_push (0), I_putf [(10, 7)] (.int), I_aload 0, I_getf [(10, 1)], I_push (1), I_iald, I_iret]
def M100 : Mi_ := (⟨"SpiritWallModel", "restoreState", "()I"⟩, prog_12_method_12_code, 1, (Option.some Jvm.ClassFile.FieldType.int), [], 2)
/- T.count (I)I -/
def K101_0 (E : En_) : List Ii_ := [I_aload 0, I_push (0), I_putf [(10, 0)] (.int), I_aload 0, I_callv [(10, 102)] [1] no_, I_iload 1, I_tsw 0 [1, 2, 3, 4, 5, 6, 7, 8, 9, 10, 11] 12]
def K101_1 (E : En_) : List Ii_ := [I_mask [true, false], I_aload 0, I_callv [(10, 106)] [1] no_, I_iret]
def K101_2 (E : En_) : List Ii_ := [I_mask [true, false], I_aload 0, I_callv [(10, 125)] [1] no_, I_iret]
def K101_3 (E : En_) : List Ii_ := [I_mask [true, false], I_aload 0, I_callv [(10, 112)] [1] no_, I_iret]
def K101_4 (E : En_) : List Ii_ := [I_mask [true, false], I_aload 0, I_callv [(10, 126)] [1] no_, I_iret]
def K101_5 (E : En_) : List Ii_ := [I_mask [true, false], I_aload 0, I_callv [(10, 127)] [1] no_, I_iret]
def K101_6 (E : En_) : List Ii_ := [I_mask [true, false], I_aload 0, I_callv [(10, 128)] [1] no_, I_iret]
def K101_7 (E : En_) : List Ii_ := [I_mask [true, false], I_aload 0, I_callv [(10, 129)] [1] no_, I_iret]
def K101_8 (E : En_) : List Ii_ := [I_mask [true, false], I_aload 0, I_callv [(10, 130)] [1] no_, I_iret]
def K101_9 (E : En_) : List Ii_ := [I_mask [true, false], I_aload 0, I_callv [(10, 141)] [1] no_, I_iret]
def K101_10 (E : En_) : List Ii_ := [I_mask [true, false], I_aload 0, I_getf [(10, 7)], I_iret]
def K101_11 (E : En_) : List Ii_ := [I_mask [true, false], I_aload 0, I_callv [(10, 143)] [1] no_, I_iret]
def K101_12 (E : En_) : List Ii_ := [I_mask [false, false], I_push (-1), I_iret]
def M101 : Mi_ := (⟨"SpiritWallModel", "count", "(I)I"⟩, prog_12_method_71_code, 2, (Option.some Jvm.ClassFile.FieldType.int), [], 21)
/- T.reckons ()V -/
def K102_0 (E : En_) : List Ii_ := [I_aload 0, I_callv [(10, 103)] [1] no_, I_push (0), I_istore 1, I_goto 1]
def K102_1 (E : En_) : List Ii_ := [I_iload 1, I_aload 0, I_callv [(10, 106)] [1] no_, I_icge 2, I_aload 0, I_getf [(10, 15)], I_iload 1, I_iload 1, I_iast, I_iinc 1 (1), I_goto 1]
def K102_2 (E : En_) : List Ii_ := [I_mask [true, false], I_aload 0, I_callv [(10, 122)] [1] no_, I_istore 1, I_goto 3]
def K102_3 (E : En_) : List Ii_ := [I_iload 1, I_push (-1), I_iceq 4, I_aload 0, I_getf [(10, 14)], I_iload 1, I_push (1), I_bast, I_aload 0, I_iload 1, I_push (12), I_idiv, I_iload 1, I_push (12), I_irem, I_callv [(10, 124)] [0, 0, 1] no_, I_aload 0, I_callv [(10, 122)] [1] no_, I_istore 1, I_goto 3]
def K102_4 (E : En_) : List Ii_ := [I_mask [false, false], I_vret]
def M102 : Mi_ := (⟨"SpiritWallModel", "reckons", "()V"⟩, prog_12_method_45_code, 2, (Option.none : Option Jvm.ClassFile.FieldType), [], 9)
/- T.findEdges ()V -/
def K103_0 (E : En_) : List Ii_ := [I_aload 0, I_aload 0, I_callv [(10, 104)] [1] no_, I_putf [(10, 10)] (.int), I_push (0), I_istore 1, I_goto 1]
def K103_1 (E : En_) : List Ii_ := [I_mask [true, true, false, false], I_iload 1, I_push (144), I_icge 2, I_aload 0, I_getf [(10, 11)], I_iload 1, I_push (0), I_iast, I_aload 0, I_getf [(10, 12)], I_iload 1, I_push (0), I_iast, I_aload 0, I_getf [(10, 14)], I_iload 1, I_push (0), I_bast, I_iinc 1 (1), I_goto 1]
def K103_2 (E : En_) : List Ii_ := [I_mask [true, false, false, false], I_push (0), I_istore 1, I_goto 3]
def K103_3 (E : En_) : List Ii_ := [I_mask [true, true, false, false], I_iload 1, I_aload 0, I_callv [(10, 112)] [1] no_, I_icge 8, I_aload 0, I_iload 1, I_callv [(10, 113)] [0, 1] no_, I_ifne 4, I_goto 7]
def K103_4 (E : En_) : List Ii_ := [I_mask [true, true, false, false], I_aload 0, I_iload 1, I_callv [(10, 115)] [0, 1] no_, I_istore 2, I_aload 0, I_getf [(10, 11)], I_iload 2, I_aload 0, I_getf [(10, 11)], I_iload 2, I_iald, I_push (1), I_iadd, I_iast, I_aload 0, I_getf [(10, 12)], I_iload 2, I_aload 0, I_getf [(10, 12)], I_iload 2, I_iald, I_aload 0, I_iload 1, I_callv [(10, 117)] [0, 1] no_, I_ifeq 5, I_aload 0, I_iload 1, I_callv [(10, 121)] [0, 1] no_, I_goto 6]
def K103_5 (E : En_) : List Ii_ := [I_mask [true, true, false, false], I_aload 0, I_iload 1, I_callv [(10, 121)] [0, 1] no_, I_ineg, I_goto 6]
def K103_6 (E : En_) : List Ii_ := [I_mask [true, true, false, false], I_iadd, I_iast, I_goto 7]
def K103_7 (E : En_) : List Ii_ := [I_mask [true, true, false, false], I_iinc 1 (1), I_goto 3]
def K103_8 (E : En_) : List Ii_ := [I_mask [true, false, false, false], I_push (0), I_istore 1, I_goto 9]
def K103_9 (E : En_) : List Ii_ := [I_mask [true, true, false, false], I_iload 1, I_aload 0, I_callv [(10, 106)] [1] no_, I_icge 14, I_iload 1, I_push (1), I_iadd, I_istore 2, I_goto 10]
def K103_10 (E : En_) : List Ii_ := [I_mask [true, true, true, false], I_iload 2, I_aload 0, I_callv [(10, 106)] [1] no_, I_icge 13, I_iload 1, I_iload 2, I_call 116 [0, 0] no_, I_istore 3, I_aload 0, I_getf [(10, 11)], I_iload 3, I_iald, I_ifne 11, I_goto 12]
def K103_11 (E : En_) : List Ii_ := [I_aload 0, I_getf [(10, 12)], I_iload 3, I_aload 0, I_getf [(10, 12)], I_iload 3, I_iald, I_aload 0, I_getf [(10, 11)], I_iload 3, I_iald, I_call 15 [0, 0] no_, I_iast, I_aload 0, I_getf [(10, 13)], I_iload 3, I_aload 0, I_getf [(10, 11)], I_iload 3, I_iald, I_push (1000000), I_aload 0, I_iload 1, I_iload 2, I_callv [(10, 110)] [0, 0, 1] no_, I_idiv, I_imul, I_iast, I_goto 12]
def K103_12 (E : En_) : List Ii_ := [I_mask [true, true, true, false], I_iinc 2 (1), I_goto 10]
def K103_13 (E : En_) : List Ii_ := [I_mask [true, true, false, false], I_iinc 1 (1), I_goto 9]
def K103_14 (E : En_) : List Ii_ := [I_mask [false, false, false, false], I_vret]
def M103 : Mi_ := (⟨"SpiritWallModel", "findEdges", "()V"⟩, prog_12_method_42_code, 4, (Option.none : Option Jvm.ClassFile.FieldType), [], 8)
/- T.errorNow ()I -/
def K104_0 (E : En_) : List Ii_ := [I_aload 0, I_getf [(10, 1)], I_push (6), I_iald, I_push (1), I_icne 1, I_aload 0, I_getf [(10, 1)], I_push (7), I_iald, I_goto 2]
def K104_1 (E : En_) : List Ii_ := [I_aload 0, I_callv [(10, 105)] [1] no_, I_goto 2]
def K104_2 (E : En_) : List Ii_ := [I_mask [false], I_iret]
def M104 : Mi_ := (⟨"SpiritWallModel", "errorNow", "()I"⟩, prog_12_method_38_code, 1, (Option.some Jvm.ClassFile.FieldType.int), [], 7)
/- T.foundError ()I -/
def K105_0 (E : En_) : List Ii_ := [I_push (0), I_istore 1, I_push (0), I_istore 2, I_goto 1]
def K105_1 (E : En_) : List Ii_ := [I_mask [true, true, true, false, false, false], I_iload 2, I_aload 0, I_callv [(10, 106)] [1] no_, I_icge 8, I_iload 2, I_push (1), I_iadd, I_istore 3, I_goto 2]
def K105_2 (E : En_) : List Ii_ := [I_mask [true, true, true, true, false, false], I_iload 3, I_aload 0, I_callv [(10, 106)] [1] no_, I_icge 7, I_aload 0, I_iload 2, I_iload 3, I_callv [(10, 107)] [0, 0, 1] no_, I_istore 4, I_iload 4, I_push (-10000000), I_icne 3, I_goto 6]
def K105_3 (E : En_) : List Ii_ := [I_mask [true, true, true, true, true, false], I_iload 1, I_istore 5, I_goto 4]
def K105_4 (E : En_) : List Ii_ := [I_iload 5, I_ifle 5, I_aload 0, I_getf [(10, 9)], I_iload 5, I_push (1), I_isub, I_iald, I_iload 4, I_icle 5, I_aload 0, I_getf [(10, 9)], I_iload 5, I_aload 0, I_getf [(10, 9)], I_iload 5, I_push (1), I_isub, I_iald, I_iast, I_iinc 5 (-1), I_goto 4]
def K105_5 (E : En_) : List Ii_ := [I_aload 0, I_getf [(10, 9)], I_iload 5, I_iload 4, I_iast, I_iload 1, I_push (1), I_iadd, I_istore 1, I_goto 6]
def K105_6 (E : En_) : List Ii_ := [I_mask [true, true, true, true, false, false], I_iinc 3 (1), I_goto 2]
def K105_7 (E : En_) : List Ii_ := [I_mask [true, true, true, false, false, false], I_iinc 2 (1), I_goto 1]
def K105_8 (E : En_) : List Ii_ := [I_mask [true, true, false, false, false, false], I_iload 1, I_ifne 9, I_push (0), I_goto 10]
def K105_9 (E : En_) : List Ii_ := [I_mask [true, true, false, false, false, false], I_aload 0, I_getf [(10, 9)], I_iload 1, I_push (1), I_isub, I_push (2), I_idiv, I_iald, I_goto 10]
def K105_10 (E : En_) : List Ii_ := [I_mask [false, false, false, false, false, false], I_iret]
def M105 : Mi_ := (⟨"SpiritWallModel", "foundError", "()I"⟩, prog_12_method_37_code, 6, (Option.some Jvm.ClassFile.FieldType.int), [], 6)
/- T.marks ()I -/
def K106_0 (E : En_) : List Ii_ := [I_aload 0, I_getf [(10, 1)], I_push (0), I_iald, I_iret]
def M106 : Mi_ := (⟨"SpiritWallModel", "marks", "()I"⟩, prog_12_method_15_code, 1, (Option.some Jvm.ClassFile.FieldType.int), [], 1)
/- T.estimateOf (II)I -/
def K107_0 (E : En_) : List Ii_ := [I_iload 1, I_iload 2, I_iceq 1, I_aload 0, I_iload 1, I_iload 2, I_callv [(10, 108)] [0, 0, 1] no_, I_ifne 2, I_goto 1]
def K107_1 (E : En_) : List Ii_ := [I_mask [false, false, false, false, false, false, false, false, false, false, false], I_push (-10000000), I_iret]
def K107_2 (E : En_) : List Ii_ := [I_mask [true, true, true, false, false, false, false, false, false, false, false], I_pushl (0), I_lstore 3, I_pushl (0), I_lstore 5, I_push (0), I_istore 7, I_push (0), I_istore 8, I_push (0), I_istore 9, I_goto 3]
def K107_3 (E : En_) : List Ii_ := [I_mask [true, true, true, true, false, true, false, true, true, true, false], I_iload 9, I_aload 0, I_callv [(10, 112)] [1] no_, I_icge 11, I_aload 0, I_iload 9, I_callv [(10, 113)] [0, 1] no_, I_ifeq 10, I_aload 0, I_iload 9, I_callv [(10, 115)] [0, 1] no_, I_iload 1, I_iload 2, I_call 116 [0, 0] no_, I_iceq 4, I_goto 10]
def K107_4 (E : En_) : List Ii_ := [I_mask [true, true, true, true, false, true, false, true, true, true, false], I_aload 0, I_iload 9, I_callv [(10, 117)] [0, 1] no_, I_ifeq 5, I_aload 0, I_iload 9, I_callv [(10, 118)] [0, 1] no_, I_goto 6]
def K107_5 (E : En_) : List Ii_ := [I_mask [true, true, true, true, false, true, false, true, true, true, false], I_aload 0, I_iload 9, I_callv [(10, 118)] [0, 1] no_, I_ineg, I_goto 6]
def K107_6 (E : En_) : List Ii_ := [I_mask [true, true, true, true, false, true, false, true, true, true, false], I_istore 10, I_aload 0, I_iload 9, I_callv [(10, 117)] [0, 1] no_, I_aload 0, I_iload 9, I_push (2), I_callv [(10, 114)] [0, 0, 1] no_, I_ifne 7, I_push (1), I_goto 8]
def K107_7 (E : En_) : List Ii_ := [I_mask [true, true, true, true, false, true, false], I_push (0), I_goto 8]
def K107_8 (E : En_) : List Ii_ := [I_mask [true, true, true, true, false, true, false], I_icne 9, I_lload 3, I_iload 10, I_i2l, I_ladd, I_lstore 3, I_iload 7, I_push (1), I_iadd, I_istore 7, I_goto 10]
def K107_9 (E : En_) : List Ii_ := [I_mask [true, true, true, true, false, true, false], I_lload 5, I_iload 10, I_i2l, I_ladd, I_lstore 5, I_iload 8, I_push (1), I_iadd, I_istore 8, I_goto 10]
def K107_10 (E : En_) : List Ii_ := [I_mask [true, true, true, true, false, true, false, true, true, true, false], I_iinc 9 (1), I_goto 3]
def K107_11 (E : En_) : List Ii_ := [I_mask [false, false, false, true, false, true, false, true, true, false, false], I_iload 7, I_ifeq 12, I_iload 8, I_ifne 13, I_goto 12]
def K107_12 (E : En_) : List Ii_ := [I_mask [false, false, false, false, false, false, false, false, false, false, false], I_push (-10000000), I_iret]
def K107_13 (E : En_) : List Ii_ := [I_mask [false, false, false, true, false, true, false, true, true, false, false], I_lload 3, I_iload 7, I_i2l, I_call 14 [2, 2] no_, I_lload 5, I_iload 8, I_i2l, I_call 14 [2, 2] no_, I_lsub, I_pushl (2), I_call 14 [2, 2] no_, I_l2i, I_iret]
def M107 : Mi_ := (⟨"SpiritWallModel", "estimateOf", "(II)I"⟩, prog_12_method_36_code, 11, (Option.some Jvm.ClassFile.FieldType.int), [], 5)
/- T.isOdd (II)Z -/
def K108_0 (E : En_) : List Ii_ := [I_aload 0, I_iload 1, I_iload 2, I_callv [(10, 109)] [0, 0, 1] no_, I_push (2), I_irem, I_push (1), I_icne 1, I_push (1), I_goto 2]
def K108_1 (E : En_) : List Ii_ := [I_mask [false, false, false], I_push (0), I_goto 2]
def K108_2 (E : En_) : List Ii_ := [I_mask [false, false, false], I_nret .boolean]
def M108 : Mi_ := (⟨"SpiritWallModel", "isOdd", "(II)Z"⟩, prog_12_method_29_code, 3, (Option.some Jvm.ClassFile.FieldType.boolean), [], 4)
/- T.swingsOf (II)I -/
def K109_0 (E : En_) : List Ii_ := [I_aload 0, I_iload 1, I_iload 2, I_callv [(10, 110)] [0, 0, 1] no_, I_aload 0, I_getf [(10, 1)], I_push (2), I_iald, I_iadd, I_push (1), I_isub, I_aload 0, I_getf [(10, 1)], I_push (2), I_iald, I_idiv, I_iret]
def M109 : Mi_ := (⟨"SpiritWallModel", "swingsOf", "(II)I"⟩, prog_12_method_28_code, 3, (Option.some Jvm.ClassFile.FieldType.int), [], 3)
/- T.distance (II)I -/
def K110_0 (E : En_) : List Ii_ := [I_aload 0, I_iload 1, I_push (1), I_callv [(10, 111)] [0, 0, 1] no_, I_aload 0, I_iload 2, I_push (1), I_callv [(10, 111)] [0, 0, 1] no_, I_isub, I_abs, I_iret]
def M110 : Mi_ := (⟨"SpiritWallModel", "distance", "(II)I"⟩, prog_12_method_27_code, 3, (Option.some Jvm.ClassFile.FieldType.int), [], 2)
/- T.of (II)I -/
def K111_0 (E : En_) : List Ii_ := [I_aload 0, I_getf [(10, 1)], I_push (8), I_push (5), I_iload 1, I_imul, I_iadd, I_iload 2, I_iadd, I_iald, I_iret]
def M111 : Mi_ := (⟨"SpiritWallModel", "of", "(II)I"⟩, prog_12_method_20_code, 3, (Option.some Jvm.ClassFile.FieldType.int), [], 1)
/- T.sights ()I -/
def K112_0 (E : En_) : List Ii_ := [I_aload 0, I_getf [(10, 1)], I_push (1), I_iald, I_iret]
def M112 : Mi_ := (⟨"SpiritWallModel", "sights", "()I"⟩, prog_12_method_16_code, 1, (Option.some Jvm.ClassFile.FieldType.int), [], 1)
/- T.counts (I)Z -/
def K113_0 (E : En_) : List Ii_ := [I_aload 0, I_iload 1, I_push (5), I_callv [(10, 114)] [0, 0, 1] no_, I_ifne 1, I_push (1), I_goto 2]
def K113_1 (E : En_) : List Ii_ := [I_mask [false, false], I_push (0), I_goto 2]
def K113_2 (E : En_) : List Ii_ := [I_mask [false, false], I_nret .boolean]
def M113 : Mi_ := (⟨"SpiritWallModel", "counts", "(I)Z"⟩, prog_12_method_24_code, 2, (Option.some Jvm.ClassFile.FieldType.boolean), [], 2)
/- T.ofSight (II)I -/
def K114_0 (E : En_) : List Ii_ := [I_aload 0, I_getf [(10, 1)], I_push (68), I_push (6), I_iload 1, I_imul, I_iadd, I_iload 2, I_iadd, I_iald, I_iret]
def M114 : Mi_ := (⟨"SpiritWallModel", "ofSight", "(II)I"⟩, prog_12_method_22_code, 3, (Option.some Jvm.ClassFile.FieldType.int), [], 1)
/- T.pairOfSight (I)I -/
def K115_0 (E : En_) : List Ii_ := [I_aload 0, I_iload 1, I_push (0), I_callv [(10, 114)] [0, 0, 1] no_, I_aload 0, I_iload 1, I_push (1), I_callv [(10, 114)] [0, 0, 1] no_, I_call 116 [0, 0] no_, I_iret]
def M115 : Mi_ := (⟨"SpiritWallModel", "pairOfSight", "(I)I"⟩, prog_12_method_34_code, 2, (Option.some Jvm.ClassFile.FieldType.int), [], 2)
/- T.pairOf (II)I -/
def K116_0 (E : En_) : List Ii_ := [I_iload 0, I_iload 1, I_icge 1, I_push (12), I_iload 0, I_imul, I_iload 1, I_iadd, I_goto 2]
def K116_1 (E : En_) : List Ii_ := [I_push (12), I_iload 1, I_imul, I_iload 0, I_iadd, I_goto 2]
def K116_2 (E : En_) : List Ii_ := [I_mask [false, false], I_iret]
def M116 : Mi_ := (⟨"SpiritWallModel", "pairOf", "(II)I"⟩, prog_12_method_33_code, 2, (Option.some Jvm.ClassFile.FieldType.int), [], 1)
/- T.goesUp (I)Z -/
def K117_0 (E : En_) : List Ii_ := [I_aload 0, I_iload 1, I_push (0), I_callv [(10, 114)] [0, 0, 1] no_, I_aload 0, I_iload 1, I_push (1), I_callv [(10, 114)] [0, 0, 1] no_, I_icge 1, I_push (1), I_goto 2]
def K117_1 (E : En_) : List Ii_ := [I_mask [false, false], I_push (0), I_goto 2]
def K117_2 (E : En_) : List Ii_ := [I_mask [false, false], I_nret .boolean]
def M117 : Mi_ := (⟨"SpiritWallModel", "goesUp", "(I)Z"⟩, prog_12_method_35_code, 2, (Option.some Jvm.ClassFile.FieldType.boolean), [], 2)
/- T.pureOf (I)I -/
def K118_0 (E : En_) : List Ii_ := [I_aload 0, I_iload 1, I_push (3), I_callv [(10, 114)] [0, 0, 1] no_, I_aload 0, I_iload 1, I_callv [(10, 119)] [0, 1] no_, I_isub, I_aload 0, I_iload 1, I_callv [(10, 120)] [0, 1] no_, I_isub, I_iret]
def M118 : Mi_ := (⟨"SpiritWallModel", "pureOf", "(I)I"⟩, prog_12_method_32_code, 2, (Option.some Jvm.ClassFile.FieldType.int), [], 4)
/- T.bendOf (I)I -/
def K119_0 (E : En_) : List Ii_ := [I_aload 0, I_aload 0, I_iload 1, I_push (0), I_callv [(10, 114)] [0, 0, 1] no_, I_aload 0, I_iload 1, I_push (1), I_callv [(10, 114)] [0, 0, 1] no_, I_callv [(10, 110)] [0, 0, 1] no_, I_i2l, I_lstore 2, I_aload 0, I_getf [(10, 1)], I_push (3), I_iald, I_i2l, I_lload 2, I_lmul, I_lload 2, I_lmul, I_pushl (100000000), I_ldiv, I_l2i, I_iret]
def M119 : Mi_ := (⟨"SpiritWallModel", "bendOf", "(I)I"⟩, prog_12_method_30_code, 4, (Option.some Jvm.ClassFile.FieldType.int), [], 3)
/- T.warmthOf (I)I -/
def K120_0 (E : En_) : List Ii_ := [I_aload 0, I_aload 0, I_iload 1, I_push (0), I_callv [(10, 114)] [0, 0, 1] no_, I_aload 0, I_iload 1, I_push (1), I_callv [(10, 114)] [0, 0, 1] no_, I_callv [(10, 110)] [0, 0, 1] no_, I_i2l, I_lstore 2, I_aload 0, I_getf [(10, 1)], I_push (4), I_iald, I_i2l, I_aload 0, I_iload 1, I_push (4), I_callv [(10, 114)] [0, 0, 1] no_, I_push (20), I_isub, I_i2l, I_lmul, I_lload 2, I_lmul, I_pushl (100000), I_call 14 [2, 2] no_, I_l2i, I_iret]
def M120 : Mi_ := (⟨"SpiritWallModel", "warmthOf", "(I)I"⟩, prog_12_method_31_code, 4, (Option.some Jvm.ClassFile.FieldType.int), [], 3)
/- T.riseOf (I)I -/
def K121_0 (E : En_) : List Ii_ := [I_aload 0, I_aload 0, I_iload 1, I_push (0), I_callv [(10, 114)] [0, 0, 1] no_, I_aload 0, I_iload 1, I_push (1), I_callv [(10, 114)] [0, 0, 1] no_, I_callv [(10, 108)] [0, 0, 1] no_, I_istore 2, I_aload 0, I_iload 1, I_push (2), I_callv [(10, 114)] [0, 0, 1] no_, I_ifne 1, I_aload 0, I_getf [(10, 10)], I_goto 2]
def K121_1 (E : En_) : List Ii_ := [I_mask [true, true, true, false], I_aload 0, I_getf [(10, 10)], I_ineg, I_goto 2]
def K121_2 (E : En_) : List Ii_ := [I_mask [true, true, true, false], I_istore 3, I_aload 0, I_iload 1, I_callv [(10, 118)] [0, 1] no_, I_iload 2, I_ifeq 3, I_iload 3, I_goto 4]
def K121_3 (E : En_) : List Ii_ := [I_mask [false, false, false, false], I_push (0), I_goto 4]
def K121_4 (E : En_) : List Ii_ := [I_mask [false, false, false, false], I_isub, I_iret]
def M121 : Mi_ := (⟨"SpiritWallModel", "riseOf", "(I)I"⟩, prog_12_method_39_code, 4, (Option.some Jvm.ClassFile.FieldType.int), [], 5)
/- T.nextEdge ()I -/
def K122_0 (E : En_) : List Ii_ := [I_push (-1), I_istore 1, I_push (0), I_istore 2, I_goto 1]
def K122_1 (E : En_) : List Ii_ := [I_mask [true, true, true, false], I_iload 2, I_aload 0, I_callv [(10, 106)] [1] no_, I_icge 7, I_iload 2, I_push (1), I_iadd, I_istore 3, I_goto 2]
def K122_2 (E : En_) : List Ii_ := [I_iload 3, I_aload 0, I_callv [(10, 106)] [1] no_, I_icge 6, I_aload 0, I_iload 2, I_iload 3, I_callv [(10, 123)] [0, 0, 1] no_, I_ifeq 5, I_aload 0, I_getf [(10, 15)], I_iload 2, I_iald, I_aload 0, I_getf [(10, 15)], I_iload 3, I_iald, I_icne 3, I_goto 5]
def K122_3 (E : En_) : List Ii_ := [I_iload 1, I_push (-1), I_iceq 4, I_aload 0, I_iload 2, I_iload 3, I_callv [(10, 110)] [0, 0, 1] no_, I_aload 0, I_iload 1, I_push (12), I_idiv, I_iload 1, I_push (12), I_irem, I_callv [(10, 110)] [0, 0, 1] no_, I_icge 5, I_goto 4]
def K122_4 (E : En_) : List Ii_ := [I_mask [true, false], I_iload 2, I_iload 3, I_call 116 [0, 0] no_, I_istore 1, I_goto 5]
def K122_5 (E : En_) : List Ii_ := [I_iinc 3 (1), I_goto 2]
def K122_6 (E : En_) : List Ii_ := [I_mask [true, true, true, false], I_iinc 2 (1), I_goto 1]
def K122_7 (E : En_) : List Ii_ := [I_mask [false, true, false, false], I_iload 1, I_iret]
def M122 : Mi_ := (⟨"SpiritWallModel", "nextEdge", "()I"⟩, prog_12_method_43_code, 4, (Option.some Jvm.ClassFile.FieldType.int), [], 3)
/- T.isEdge (II)Z -/
def K123_0 (E : En_) : List Ii_ := [I_iload 1, I_iload 2, I_iceq 1, I_aload 0, I_getf [(10, 11)], I_iload 1, I_iload 2, I_call 116 [0, 0] no_, I_iald, I_ifle 1, I_push (1), I_goto 2]
def K123_1 (E : En_) : List Ii_ := [I_mask [false, false, false], I_push (0), I_goto 2]
def K123_2 (E : En_) : List Ii_ := [I_mask [false, false, false], I_nret .boolean]
def M123 : Mi_ := (⟨"SpiritWallModel", "isEdge", "(II)Z"⟩, prog_12_method_40_code, 3, (Option.some Jvm.ClassFile.FieldType.boolean), [], 2)
/- T.joins (II)V -/
def K124_0 (E : En_) : List Ii_ := [I_aload 0, I_getf [(10, 15)], I_iload 1, I_iald, I_aload 0, I_getf [(10, 15)], I_iload 2, I_iald, I_max, I_istore 3, I_aload 0, I_getf [(10, 15)], I_iload 1, I_iald, I_aload 0, I_getf [(10, 15)], I_iload 2, I_iald, I_min, I_istore 4, I_push (0), I_istore 5, I_goto 1]
def K124_1 (E : En_) : List Ii_ := [I_mask [true, false, false], I_iload 5, I_aload 0, I_callv [(10, 106)] [1] no_, I_icge 3, I_aload 0, I_getf [(10, 15)], I_iload 5, I_iald, I_iload 3, I_icne 2, I_aload 0, I_getf [(10, 15)], I_iload 5, I_iload 4, I_iast, I_goto 2]
def K124_2 (E : En_) : List Ii_ := [I_mask [true, false, false], I_iinc 5 (1), I_goto 1]
def K124_3 (E : En_) : List Ii_ := [I_mask [false, false, false, false, false, false], I_vret]
def M124 : Mi_ := (⟨"SpiritWallModel", "joins", "(II)V"⟩, prog_12_method_44_code, 6, (Option.none : Option Jvm.ClassFile.FieldType), [], 2)
/- T.benches ()I -/
def K125_0 (E : En_) : List Ii_ := [I_push (0), I_istore 1, I_push (0), I_istore 2, I_goto 1]
def K125_1 (E : En_) : List Ii_ := [I_iload 2, I_aload 0, I_callv [(10, 106)] [1] no_, I_icge 2, I_iload 1, I_aload 0, I_iload 2, I_push (2), I_callv [(10, 111)] [0, 0, 1] no_, I_iadd, I_istore 1, I_iinc 2 (1), I_goto 1]
def K125_2 (E : En_) : List Ii_ := [I_mask [false, true, false], I_iload 1, I_iret]
def M125 : Mi_ := (⟨"SpiritWallModel", "benches", "()I"⟩, prog_12_method_68_code, 3, (Option.some Jvm.ClassFile.FieldType.int), [], 2)
/- T.struck ()I -/
def K126_0 (E : En_) : List Ii_ := [I_push (0), I_istore 1, I_push (0), I_istore 2, I_goto 1]
def K126_1 (E : En_) : List Ii_ := [I_iload 2, I_aload 0, I_callv [(10, 112)] [1] no_, I_icge 2, I_iload 1, I_aload 0, I_iload 2, I_push (5), I_callv [(10, 114)] [0, 0, 1] no_, I_iadd, I_istore 1, I_iinc 2 (1), I_goto 1]
def K126_2 (E : En_) : List Ii_ := [I_mask [false, true, false], I_iload 1, I_iret]
def M126 : Mi_ := (⟨"SpiritWallModel", "struck", "()I"⟩, prog_12_method_69_code, 3, (Option.some Jvm.ClassFile.FieldType.int), [], 2)
/- T.edges ()I -/
def K127_0 (E : En_) : List Ii_ := [I_push (0), I_istore 1, I_push (0), I_istore 2, I_goto 1]
def K127_1 (E : En_) : List Ii_ := [I_iload 2, I_push (144), I_icge 3, I_aload 0, I_getf [(10, 11)], I_iload 2, I_iald, I_ifle 2, I_iload 1, I_push (1), I_iadd, I_istore 1, I_goto 2]
def K127_2 (E : En_) : List Ii_ := [I_iinc 2 (1), I_goto 1]
def K127_3 (E : En_) : List Ii_ := [I_mask [false, true, false], I_iload 1, I_iret]
def M127 : Mi_ := (⟨"SpiritWallModel", "edges", "()I"⟩, prog_12_method_46_code, 3, (Option.some Jvm.ClassFile.FieldType.int), [], 1)
/- T.takenEdges ()I -/
def K128_0 (E : En_) : List Ii_ := [I_push (0), I_istore 1, I_push (0), I_istore 2, I_goto 1]
def K128_1 (E : En_) : List Ii_ := [I_iload 2, I_push (144), I_icge 3, I_aload 0, I_getf [(10, 14)], I_iload 2, I_bald, I_ifeq 2, I_iload 1, I_push (1), I_iadd, I_istore 1, I_goto 2]
def K128_2 (E : En_) : List Ii_ := [I_iinc 2 (1), I_goto 1]
def K128_3 (E : En_) : List Ii_ := [I_mask [false, true, false], I_iload 1, I_iret]
def M128 : Mi_ := (⟨"SpiritWallModel", "takenEdges", "()I"⟩, prog_12_method_47_code, 3, (Option.some Jvm.ClassFile.FieldType.int), [], 1)
/- T.loops ()I -/
def K129_0 (E : En_) : List Ii_ := [I_aload 0, I_callv [(10, 127)] [1] no_, I_aload 0, I_callv [(10, 128)] [1] no_, I_isub, I_iret]
def M129 : Mi_ := (⟨"SpiritWallModel", "loops", "()I"⟩, prog_12_method_53_code, 1, (Option.some Jvm.ClassFile.FieldType.int), [], 2)
/- T.closing ()I -/
def K130_0 (E : En_) : List Ii_ := [I_push (0), I_istore 1, I_push (0), I_istore 2, I_goto 1]
def K130_1 (E : En_) : List Ii_ := [I_iload 2, I_aload 0, I_callv [(10, 129)] [1] no_, I_icge 3, I_aload 0, I_iload 2, I_callv [(10, 131)] [0, 1] no_, I_ifeq 2, I_iload 1, I_push (1), I_iadd, I_istore 1, I_goto 2]
def K130_2 (E : En_) : List Ii_ := [I_iinc 2 (1), I_goto 1]
def K130_3 (E : En_) : List Ii_ := [I_mask [false, true, false], I_iload 1, I_iret]
def M130 : Mi_ := (⟨"SpiritWallModel", "closing", "()I"⟩, prog_12_method_59_code, 3, (Option.some Jvm.ClassFile.FieldType.int), [], 20)
/- T.closes (I)Z -/
def K131_0 (E : En_) : List Ii_ := [I_aload 0, I_iload 1, I_aload 0, I_getf [(10, 1)], I_push (5), I_iald, I_callv [(10, 132)] [0, 0, 1] no_, I_nret .boolean]
def M131 : Mi_ := (⟨"SpiritWallModel", "closes", "(I)Z"⟩, prog_12_method_58_code, 2, (Option.some Jvm.ClassFile.FieldType.boolean), [], 19)
/- T.closesWith (II)Z -/
def K132_0 (E : En_) : List Ii_ := [I_aload 0, I_iload 1, I_callv [(10, 133)] [0, 1] no_, I_i2l, I_lstore 3, I_pushl (1000), I_lload 3, I_lmul, I_lload 3, I_lmul, I_iload 2, I_i2l, I_iload 2, I_i2l, I_lmul, I_aload 0, I_iload 1, I_callv [(10, 139)] [0, 1] no_, I_i2l, I_lmul, I_lcmp, I_ifgt 1, I_push (1), I_goto 2]
def K132_1 (E : En_) : List Ii_ := [I_mask [false, false, false, false, false], I_push (0), I_goto 2]
def K132_2 (E : En_) : List Ii_ := [I_mask [false, false, false, false, false], I_nret .boolean]
def M132 : Mi_ := (⟨"SpiritWallModel", "closesWith", "(II)Z"⟩, prog_12_method_57_code, 5, (Option.some Jvm.ClassFile.FieldType.boolean), [], 18)
/- T.misclosure (I)I -/
def K133_0 (E : En_) : List Ii_ := [I_aload 0, I_iload 1, I_callv [(10, 134)] [0, 1] no_, I_aload 0, I_getf [(10, 12)], I_aload 0, I_iload 1, I_callv [(10, 135)] [0, 1] no_, I_iald, I_aload 0, I_callv [(10, 137)] [1] no_, I_iadd, I_iret]
def M133 : Mi_ := (⟨"SpiritWallModel", "misclosure", "(I)I"⟩, prog_12_method_55_code, 2, (Option.some Jvm.ClassFile.FieldType.int), [], 17)
/- T.goesLoop (I)V -/
def K134_0 (E : En_) : List Ii_ := [I_aload 0, I_iload 1, I_callv [(10, 135)] [0, 1] no_, I_istore 2, I_aload 0, I_iload 2, I_push (12), I_irem, I_iload 2, I_push (12), I_idiv, I_callv [(10, 136)] [0, 0, 1] no_, I_istore 3, I_vret]
def M134 : Mi_ := (⟨"SpiritWallModel", "goesLoop", "(I)V"⟩, prog_12_method_54_code, 4, (Option.none : Option Jvm.ClassFile.FieldType), [], 16)
/- T.loopEdge (I)I -/
def K135_0 (E : En_) : List Ii_ := [I_iload 1, I_istore 2, I_push (0), I_istore 3, I_goto 1]
def K135_1 (E : En_) : List Ii_ := [I_mask [true, false], I_iload 3, I_push (144), I_icge 5, I_aload 0, I_getf [(10, 11)], I_iload 3, I_iald, I_ifeq 4, I_aload 0, I_getf [(10, 14)], I_iload 3, I_bald, I_ifeq 2, I_goto 4]
def K135_2 (E : En_) : List Ii_ := [I_mask [true, false], I_iload 2, I_ifne 3, I_iload 3, I_iret]
def K135_3 (E : En_) : List Ii_ := [I_mask [true, false], I_iload 2, I_push (1), I_isub, I_istore 2, I_goto 4]
def K135_4 (E : En_) : List Ii_ := [I_mask [true, false], I_iinc 3 (1), I_goto 1]
def K135_5 (E : En_) : List Ii_ := [I_mask [false, false, false, false], I_push (-1), I_iret]
def M135 : Mi_ := (⟨"SpiritWallModel", "loopEdge", "(I)I"⟩, prog_12_method_52_code, 4, (Option.some Jvm.ClassFile.FieldType.int), [], 1)
/- T.findsWay (II)Z -/
def K136_0 (E : En_) : List Ii_ := [I_aload 0, I_push (0), I_putf [(10, 17)] (.int), I_aload 0, I_iload 1, I_iload 2, I_push (-1), I_callv [(10, 1000)] [0, 0, 0, 1] no_, I_nret .boolean]
def M136 : Mi_ := (⟨"SpiritWallModel", "findsWay", "(II)Z"⟩, prog_12_method_49_code, 3, (Option.some Jvm.ClassFile.FieldType.boolean), [], 15)
/- T.sumOfWay ()I -/
def K137_0 (E : En_) : List Ii_ := [I_push (0), I_istore 1, I_push (1), I_istore 2, I_goto 1]
def K137_1 (E : En_) : List Ii_ := [I_iload 2, I_aload 0, I_getf [(10, 17)], I_icge 2, I_iload 1, I_aload 0, I_aload 0, I_getf [(10, 16)], I_iload 2, I_push (1), I_isub, I_iald, I_aload 0, I_getf [(10, 16)], I_iload 2, I_iald, I_callv [(10, 138)] [0, 0, 1] no_, I_iadd, I_istore 1, I_iinc 2 (1), I_goto 1]
def K137_2 (E : En_) : List Ii_ := [I_mask [false, true, false], I_iload 1, I_iret]
def M137 : Mi_ := (⟨"SpiritWallModel", "sumOfWay", "()I"⟩, prog_12_method_50_code, 3, (Option.some Jvm.ClassFile.FieldType.int), [], 3)
/- T.riseFrom (II)I -/
def K138_0 (E : En_) : List Ii_ := [I_iload 1, I_iload 2, I_icge 1, I_aload 0, I_getf [(10, 12)], I_iload 1, I_iload 2, I_call 116 [0, 0] no_, I_iald, I_goto 2]
def K138_1 (E : En_) : List Ii_ := [I_aload 0, I_getf [(10, 12)], I_iload 1, I_iload 2, I_call 116 [0, 0] no_, I_iald, I_ineg, I_goto 2]
def K138_2 (E : En_) : List Ii_ := [I_mask [false, false, false], I_iret]
def M138 : Mi_ := (⟨"SpiritWallModel", "riseFrom", "(II)I"⟩, prog_12_method_41_code, 3, (Option.some Jvm.ClassFile.FieldType.int), [], 2)
/- T.wayOf (I)I -/
def K139_0 (E : En_) : List Ii_ := [I_aload 0, I_iload 1, I_callv [(10, 134)] [0, 1] no_, I_aload 0, I_iload 1, I_callv [(10, 135)] [0, 1] no_, I_istore 2, I_aload 0, I_iload 2, I_push (12), I_idiv, I_iload 2, I_push (12), I_irem, I_callv [(10, 110)] [0, 0, 1] no_, I_aload 0, I_callv [(10, 140)] [1] no_, I_iadd, I_iret]
def M139 : Mi_ := (⟨"SpiritWallModel", "wayOf", "(I)I"⟩, prog_12_method_56_code, 3, (Option.some Jvm.ClassFile.FieldType.int), [], 17)
/- T.lengthOfWay ()I -/
def K140_0 (E : En_) : List Ii_ := [I_push (0), I_istore 1, I_push (1), I_istore 2, I_goto 1]
def K140_1 (E : En_) : List Ii_ := [I_iload 2, I_aload 0, I_getf [(10, 17)], I_icge 2, I_iload 1, I_aload 0, I_aload 0, I_getf [(10, 16)], I_iload 2, I_push (1), I_isub, I_iald, I_aload 0, I_getf [(10, 16)], I_iload 2, I_iald, I_callv [(10, 110)] [0, 0, 1] no_, I_iadd, I_istore 1, I_iinc 2 (1), I_goto 1]
def K140_2 (E : En_) : List Ii_ := [I_mask [false, true, false], I_iload 1, I_iret]
def M140 : Mi_ := (⟨"SpiritWallModel", "lengthOfWay", "()I"⟩, prog_12_method_51_code, 3, (Option.some Jvm.ClassFile.FieldType.int), [], 3)
/- T.withHeights ()I -/
def K141_0 (E : En_) : List Ii_ := [I_push (0), I_istore 1, I_push (0), I_istore 2, I_goto 1]
def K141_1 (E : En_) : List Ii_ := [I_iload 2, I_aload 0, I_callv [(10, 106)] [1] no_, I_icge 3, I_aload 0, I_iload 2, I_callv [(10, 142)] [0, 1] no_, I_ifeq 2, I_iload 1, I_push (1), I_iadd, I_istore 1, I_goto 2]
def K141_2 (E : En_) : List Ii_ := [I_iinc 2 (1), I_goto 1]
def K141_3 (E : En_) : List Ii_ := [I_mask [false, true, false], I_iload 1, I_iret]
def M141 : Mi_ := (⟨"SpiritWallModel", "withHeights", "()I"⟩, prog_12_method_62_code, 3, (Option.some Jvm.ClassFile.FieldType.int), [], 3)
/- T.hasHeight (I)Z -/
def K142_0 (E : En_) : List Ii_ := [I_aload 0, I_iload 1, I_push (3), I_callv [(10, 111)] [0, 0, 1] no_, I_push (1), I_icne 1, I_push (1), I_goto 2]
def K142_1 (E : En_) : List Ii_ := [I_mask [false, false], I_push (0), I_goto 2]
def K142_2 (E : En_) : List Ii_ := [I_mask [false, false], I_nret .boolean]
def M142 : Mi_ := (⟨"SpiritWallModel", "hasHeight", "(I)Z"⟩, prog_12_method_25_code, 2, (Option.some Jvm.ClassFile.FieldType.boolean), [], 2)
/- T.parts ()I -/
def K143_0 (E : En_) : List Ii_ := [I_push (0), I_istore 1, I_push (0), I_istore 2, I_goto 1]
def K143_1 (E : En_) : List Ii_ := [I_iload 2, I_aload 0, I_callv [(10, 106)] [1] no_, I_icge 3, I_aload 0, I_getf [(10, 15)], I_iload 2, I_iald, I_iload 2, I_icne 2, I_iload 1, I_push (1), I_iadd, I_istore 1, I_goto 2]
def K143_2 (E : En_) : List Ii_ := [I_iinc 2 (1), I_goto 1]
def K143_3 (E : En_) : List Ii_ := [I_mask [false, true, false], I_iload 1, I_iret]
def M143 : Mi_ := (⟨"SpiritWallModel", "parts", "()I"⟩, prog_12_method_70_code, 3, (Option.some Jvm.ClassFile.FieldType.int), [], 2)
/- T.setting (I)I -/
def K144_0 (E : En_) : List Ii_ := [I_aload 0, I_push (0), I_putf [(10, 0)] (.int), I_iload 1, I_i2l, I_pushl (0), I_pushl (4), I_call 145 [2, 2, 2] no_, I_ifeq 1, I_aload 0, I_getf [(10, 1)], I_push (2), I_iload 1, I_iadd, I_iald, I_goto 2]
def K144_1 (E : En_) : List Ii_ := [I_mask [false, false], I_push (-1), I_goto 2]
def K144_2 (E : En_) : List Ii_ := [I_mask [false, false], I_iret]
def M144 : Mi_ := (⟨"SpiritWallModel", "setting", "(I)I"⟩, prog_12_method_72_code, 2, (Option.some Jvm.ClassFile.FieldType.int), [], 2)
/- T.isIn (JJJ)Z -/
def K145_0 (E : En_) : List Ii_ := [I_lload 0, I_lload 2, I_lcmp, I_iflt 1, I_lload 0, I_lload 4, I_lcmp, I_ifgt 1, I_push (1), I_goto 2]
def K145_1 (E : En_) : List Ii_ := [I_mask [false, false, false, false, false, false], I_push (0), I_goto 2]
def K145_2 (E : En_) : List Ii_ := [I_mask [false, false, false, false, false, false], I_nret .boolean]
def M145 : Mi_ := (⟨"SpiritWallModel", "isIn", "(JJJ)Z"⟩, prog_12_method_5_code, 6, (Option.some Jvm.ClassFile.FieldType.boolean), [], 1)
/- T.levelError ()I -/
def K146_0 (E : En_) : List Ii_ := [I_aload 0, I_push (0), I_putf [(10, 0)] (.int), I_aload 0, I_callv [(10, 104)] [1] no_, I_iret]
def M146 : Mi_ := (⟨"SpiritWallModel", "levelError", "()I"⟩, prog_12_method_73_code, 1, (Option.some Jvm.ClassFile.FieldType.int), [], 8)
/- T.estimate (II)I -/
def K147_0 (E : En_) : List Ii_ := [I_aload 0, I_aload 0, I_iload 1, I_iload 2, I_callv [(10, 148)] [0, 0, 1] no_, I_callv [(10, 97)] [0, 1] no_, I_ifeq 1, I_aload 0, I_iload 1, I_iload 2, I_callv [(10, 107)] [0, 0, 1] no_, I_goto 2]
def K147_1 (E : En_) : List Ii_ := [I_mask [false, false, false], I_push (0), I_goto 2]
def K147_2 (E : En_) : List Ii_ := [I_mask [false, false, false], I_iret]
def M147 : Mi_ := (⟨"SpiritWallModel", "estimate", "(II)I"⟩, prog_12_method_74_code, 3, (Option.some Jvm.ClassFile.FieldType.int), [], 6)
/- T.areMarks (II)Z -/
def K148_0 (E : En_) : List Ii_ := [I_aload 0, I_iload 1, I_callv [(10, 149)] [0, 1] no_, I_ifeq 1, I_aload 0, I_iload 2, I_callv [(10, 149)] [0, 1] no_, I_ifeq 1, I_push (1), I_goto 2]
def K148_1 (E : En_) : List Ii_ := [I_mask [false, false, false], I_push (0), I_goto 2]
def K148_2 (E : En_) : List Ii_ := [I_mask [false, false, false], I_nret .boolean]
def M148 : Mi_ := (⟨"SpiritWallModel", "areMarks", "(II)Z"⟩, prog_12_method_18_code, 3, (Option.some Jvm.ClassFile.FieldType.boolean), [], 3)
/- T.isMark (I)Z -/
def K149_0 (E : En_) : List Ii_ := [I_iload 1, I_i2l, I_pushl (0), I_aload 0, I_callv [(10, 106)] [1] no_, I_push (1), I_isub, I_i2l, I_call 145 [2, 2, 2] no_, I_nret .boolean]
def M149 : Mi_ := (⟨"SpiritWallModel", "isMark", "(I)Z"⟩, prog_12_method_17_code, 2, (Option.some Jvm.ClassFile.FieldType.boolean), [], 2)
/- T.mark (II)I -/
def K150_0 (E : En_) : List Ii_ := [I_aload 0, I_aload 0, I_iload 1, I_callv [(10, 149)] [0, 1] no_, I_callv [(10, 97)] [0, 1] no_, I_ifeq 1, I_aload 0, I_iload 2, I_i2l, I_pushl (0), I_pushl (4), I_call 145 [2, 2, 2] no_, I_push (2), I_callv [(10, 151)] [0, 0, 1] no_, I_ifne 2, I_goto 1]
def K150_1 (E : En_) : List Ii_ := [I_mask [false, false, false], I_push (0), I_iret]
def K150_2 (E : En_) : List Ii_ := [I_aload 0, I_callv [(10, 102)] [1] no_, I_iload 2, I_tsw 0 [3, 4, 5, 6] 7]
def K150_3 (E : En_) : List Ii_ := [I_mask [true, true, false], I_aload 0, I_iload 1, I_push (1), I_callv [(10, 111)] [0, 0, 1] no_, I_iret]
def K150_4 (E : En_) : List Ii_ := [I_mask [true, true, false], I_aload 0, I_iload 1, I_push (2), I_callv [(10, 111)] [0, 0, 1] no_, I_iret]
def K150_5 (E : En_) : List Ii_ := [I_mask [true, true, false], I_aload 0, I_iload 1, I_callv [(10, 152)] [0, 1] no_, I_iret]
def K150_6 (E : En_) : List Ii_ := [I_mask [true, true, false], I_aload 0, I_iload 1, I_callv [(10, 153)] [0, 1] no_, I_iret]
def K150_7 (E : En_) : List Ii_ := [I_mask [true, true, false], I_aload 0, I_getf [(10, 15)], I_iload 1, I_iald, I_iret]
def M150 : Mi_ := (⟨"SpiritWallModel", "mark", "(II)I"⟩, prog_12_method_77_code, 3, (Option.some Jvm.ClassFile.FieldType.int), [], 10)
/- T.may (ZI)Z -/
def K151_0 (E : En_) : List Ii_ := [I_aload 0, I_iload 1, I_ifeq 1, I_push (0), I_goto 2]
def K151_1 (E : En_) : List Ii_ := [I_mask [false], I_iload 2, I_goto 2]
def K151_2 (E : En_) : List Ii_ := [I_mask [false, true, false], I_putf [(10, 0)] (.int), I_iload 1, I_nret .boolean]
def M151 : Mi_ := (⟨"SpiritWallModel", "may", "(ZI)Z"⟩, prog_12_method_4_code, 3, (Option.some Jvm.ClassFile.FieldType.boolean), [], 1)
/- T.edgesOf (I)I -/
def K152_0 (E : En_) : List Ii_ := [I_push (0), I_istore 2, I_push (0), I_istore 3, I_goto 1]
def K152_1 (E : En_) : List Ii_ := [I_iload 3, I_aload 0, I_callv [(10, 106)] [1] no_, I_icge 3, I_aload 0, I_iload 1, I_iload 3, I_callv [(10, 123)] [0, 0, 1] no_, I_ifeq 2, I_iload 2, I_push (1), I_iadd, I_istore 2, I_goto 2]
def K152_2 (E : En_) : List Ii_ := [I_iinc 3 (1), I_goto 1]
def K152_3 (E : En_) : List Ii_ := [I_mask [false, false, true, false], I_iload 2, I_iret]
def M152 : Mi_ := (⟨"SpiritWallModel", "edgesOf", "(I)I"⟩, prog_12_method_75_code, 4, (Option.some Jvm.ClassFile.FieldType.int), [], 3)
/- T.sightsOf (I)I -/
def K153_0 (E : En_) : List Ii_ := [I_push (0), I_istore 2, I_push (0), I_istore 3, I_goto 1]
def K153_1 (E : En_) : List Ii_ := [I_iload 3, I_aload 0, I_callv [(10, 112)] [1] no_, I_icge 3, I_aload 0, I_iload 3, I_callv [(10, 113)] [0, 1] no_, I_ifeq 2, I_aload 0, I_iload 3, I_iload 1, I_callv [(10, 154)] [0, 0, 1] no_, I_ifeq 2, I_iload 2, I_push (1), I_iadd, I_istore 2, I_goto 2]
def K153_2 (E : En_) : List Ii_ := [I_iinc 3 (1), I_goto 1]
def K153_3 (E : En_) : List Ii_ := [I_mask [false, false, true, false], I_iload 2, I_iret]
def M153 : Mi_ := (⟨"SpiritWallModel", "sightsOf", "(I)I"⟩, prog_12_method_76_code, 4, (Option.some Jvm.ClassFile.FieldType.int), [], 3)
/- T.isSightOf (II)Z -/
def K154_0 (E : En_) : List Ii_ := [I_aload 0, I_iload 1, I_push (0), I_callv [(10, 114)] [0, 0, 1] no_, I_iload 2, I_iceq 1, I_aload 0, I_iload 1, I_push (1), I_callv [(10, 114)] [0, 0, 1] no_, I_iload 2, I_icne 2, I_goto 1]
def K154_1 (E : En_) : List Ii_ := [I_mask [false, false, false], I_push (1), I_goto 3]
def K154_2 (E : En_) : List Ii_ := [I_mask [false, false, false], I_push (0), I_goto 3]
def K154_3 (E : En_) : List Ii_ := [I_mask [false, false, false], I_nret .boolean]
def M154 : Mi_ := (⟨"SpiritWallModel", "isSightOf", "(II)Z"⟩, prog_12_method_61_code, 3, (Option.some Jvm.ClassFile.FieldType.boolean), [], 2)
/- T.height (I)I -/
def K155_0 (E : En_) : List Ii_ := [I_aload 0, I_aload 0, I_iload 1, I_callv [(10, 149)] [0, 1] no_, I_callv [(10, 97)] [0, 1] no_, I_ifeq 1, I_aload 0, I_iload 1, I_callv [(10, 156)] [0, 1] no_, I_goto 2]
def K155_1 (E : En_) : List Ii_ := [I_mask [false, false], I_push (0), I_goto 2]
def K155_2 (E : En_) : List Ii_ := [I_mask [false, false], I_iret]
def M155 : Mi_ := (⟨"SpiritWallModel", "height", "(I)I"⟩, prog_12_method_79_code, 2, (Option.some Jvm.ClassFile.FieldType.int), [], 4)
/- T.heightOf (I)I -/
def K156_0 (E : En_) : List Ii_ := [I_aload 0, I_iload 1, I_callv [(10, 142)] [0, 1] no_, I_ifeq 1, I_aload 0, I_iload 1, I_push (4), I_callv [(10, 111)] [0, 0, 1] no_, I_goto 2]
def K156_1 (E : En_) : List Ii_ := [I_mask [false, false], I_push (-10000000), I_goto 2]
def K156_2 (E : En_) : List Ii_ := [I_mask [false, false], I_iret]
def M156 : Mi_ := (⟨"SpiritWallModel", "heightOf", "(I)I"⟩, prog_12_method_78_code, 2, (Option.some Jvm.ClassFile.FieldType.int), [], 3)
/- T.whyNone (I)I -/
def K157_0 (E : En_) : List Ii_ := [I_aload 0, I_aload 0, I_iload 1, I_callv [(10, 149)] [0, 1] no_, I_callv [(10, 97)] [0, 1] no_, I_ifne 1, I_push (0), I_iret]
def K157_1 (E : En_) : List Ii_ := [I_mask [true, true, false, false], I_aload 0, I_callv [(10, 102)] [1] no_, I_push (0), I_istore 2, I_goto 2]
def K157_2 (E : En_) : List Ii_ := [I_mask [true, true, true, false], I_iload 2, I_aload 0, I_callv [(10, 106)] [1] no_, I_icge 4, I_aload 0, I_iload 2, I_callv [(10, 158)] [0, 1] no_, I_ifeq 3, I_aload 0, I_getf [(10, 15)], I_iload 2, I_iald, I_aload 0, I_getf [(10, 15)], I_iload 1, I_iald, I_icne 3, I_push (0), I_iret]
def K157_3 (E : En_) : List Ii_ := [I_mask [true, true, true, false], I_iinc 2 (1), I_goto 2]
def K157_4 (E : En_) : List Ii_ := [I_mask [true, true, false, false], I_push (1), I_istore 2, I_push (0), I_istore 3, I_goto 5]
def K157_5 (E : En_) : List Ii_ := [I_iload 3, I_aload 0, I_callv [(10, 112)] [1] no_, I_icge 10, I_aload 0, I_iload 3, I_iload 1, I_callv [(10, 154)] [0, 0, 1] no_, I_ifeq 9, I_iload 2, I_push (3), I_iceq 6, I_aload 0, I_iload 3, I_callv [(10, 113)] [0, 1] no_, I_ifeq 7, I_goto 6]
def K157_6 (E : En_) : List Ii_ := [I_mask [true, true, false], I_push (3), I_goto 8]
def K157_7 (E : En_) : List Ii_ := [I_mask [true, true, false], I_push (2), I_goto 8]
def K157_8 (E : En_) : List Ii_ := [I_mask [true, true, false], I_istore 2, I_goto 9]
def K157_9 (E : En_) : List Ii_ := [I_iinc 3 (1), I_goto 5]
def K157_10 (E : En_) : List Ii_ := [I_mask [false, false, true, false], I_iload 2, I_iret]
def M157 : Mi_ := (⟨"SpiritWallModel", "whyNone", "(I)I"⟩, prog_12_method_80_code, 4, (Option.some Jvm.ClassFile.FieldType.int), [], 10)
/- T.isBench (I)Z -/
def K158_0 (E : En_) : List Ii_ := [I_aload 0, I_iload 1, I_push (2), I_callv [(10, 111)] [0, 0, 1] no_, I_push (1), I_icne 1, I_push (1), I_goto 2]
def K158_1 (E : En_) : List Ii_ := [I_mask [false, false], I_push (0), I_goto 2]
def K158_2 (E : En_) : List Ii_ := [I_mask [false, false], I_nret .boolean]
def M158 : Mi_ := (⟨"SpiritWallModel", "isBench", "(I)Z"⟩, prog_12_method_26_code, 2, (Option.some Jvm.ClassFile.FieldType.boolean), [], 2)
/- T.sight (II)I -/
def K159_0 (E : En_) : List Ii_ := [I_aload 0, I_aload 0, I_iload 1, I_callv [(10, 160)] [0, 1] no_, I_callv [(10, 97)] [0, 1] no_, I_ifeq 1, I_aload 0, I_iload 2, I_i2l, I_pushl (0), I_pushl (9), I_call 145 [2, 2, 2] no_, I_push (2), I_callv [(10, 151)] [0, 0, 1] no_, I_ifne 2, I_goto 1]
def K159_1 (E : En_) : List Ii_ := [I_mask [false, false, false], I_push (0), I_iret]
def K159_2 (E : En_) : List Ii_ := [I_aload 0, I_aload 0, I_callv [(10, 104)] [1] no_, I_putf [(10, 10)] (.int), I_iload 2, I_tsw 6 [3, 4, 5, 6] 7]
def K159_3 (E : En_) : List Ii_ := [I_mask [true, true, false], I_aload 0, I_aload 0, I_iload 1, I_push (0), I_callv [(10, 114)] [0, 0, 1] no_, I_aload 0, I_iload 1, I_push (1), I_callv [(10, 114)] [0, 0, 1] no_, I_callv [(10, 109)] [0, 0, 1] no_, I_iret]
def K159_4 (E : En_) : List Ii_ := [I_mask [true, true, false], I_aload 0, I_iload 1, I_callv [(10, 119)] [0, 1] no_, I_iret]
def K159_5 (E : En_) : List Ii_ := [I_mask [true, true, false], I_aload 0, I_iload 1, I_callv [(10, 120)] [0, 1] no_, I_iret]
def K159_6 (E : En_) : List Ii_ := [I_mask [true, true, false], I_aload 0, I_iload 1, I_callv [(10, 121)] [0, 1] no_, I_iret]
def K159_7 (E : En_) : List Ii_ := [I_aload 0, I_iload 1, I_iload 2, I_callv [(10, 114)] [0, 0, 1] no_, I_iret]
def M159 : Mi_ := (⟨"SpiritWallModel", "sight", "(II)I"⟩, prog_12_method_81_code, 3, (Option.some Jvm.ClassFile.FieldType.int), [], 8)
/- T.isSight (I)Z -/
def K160_0 (E : En_) : List Ii_ := [I_iload 1, I_i2l, I_pushl (0), I_aload 0, I_callv [(10, 112)] [1] no_, I_push (1), I_isub, I_i2l, I_call 145 [2, 2, 2] no_, I_nret .boolean]
def M160 : Mi_ := (⟨"SpiritWallModel", "isSight", "(I)Z"⟩, prog_12_method_19_code, 2, (Option.some Jvm.ClassFile.FieldType.boolean), [], 2)
/- T.rise (II)I -/
def K161_0 (E : En_) : List Ii_ := [I_aload 0, I_aload 0, I_iload 1, I_iload 2, I_callv [(10, 148)] [0, 0, 1] no_, I_callv [(10, 97)] [0, 1] no_, I_ifne 1, I_push (0), I_iret]
def K161_1 (E : En_) : List Ii_ := [I_aload 0, I_callv [(10, 102)] [1] no_, I_aload 0, I_iload 1, I_iload 2, I_callv [(10, 123)] [0, 0, 1] no_, I_ifeq 2, I_aload 0, I_iload 1, I_iload 2, I_callv [(10, 138)] [0, 0, 1] no_, I_goto 3]
def K161_2 (E : En_) : List Ii_ := [I_mask [false, false, false], I_push (-10000000), I_goto 3]
def K161_3 (E : En_) : List Ii_ := [I_mask [false, false, false], I_iret]
def M161 : Mi_ := (⟨"SpiritWallModel", "rise", "(II)I"⟩, prog_12_method_82_code, 3, (Option.some Jvm.ClassFile.FieldType.int), [], 10)
/- T.edge (III)I -/
def K162_0 (E : En_) : List Ii_ := [I_aload 0, I_aload 0, I_iload 1, I_iload 2, I_callv [(10, 148)] [0, 0, 1] no_, I_callv [(10, 97)] [0, 1] no_, I_ifeq 1, I_aload 0, I_iload 3, I_i2l, I_pushl (0), I_pushl (6), I_call 145 [2, 2, 2] no_, I_push (2), I_callv [(10, 151)] [0, 0, 1] no_, I_ifne 2, I_goto 1]
def K162_1 (E : En_) : List Ii_ := [I_mask [false, false, false, false, false], I_push (0), I_iret]
def K162_2 (E : En_) : List Ii_ := [I_mask [true, true, true, true, false], I_aload 0, I_callv [(10, 102)] [1] no_, I_aload 0, I_iload 1, I_iload 2, I_callv [(10, 123)] [0, 0, 1] no_, I_ifne 3, I_push (-1), I_iret]
def K162_3 (E : En_) : List Ii_ := [I_mask [true, true, true, true, false], I_iload 1, I_iload 2, I_call 116 [0, 0] no_, I_istore 4, I_iload 3, I_tsw 0 [4, 5, 6, 7, 10, 11] 12]
def K162_4 (E : En_) : List Ii_ := [I_mask [true, false, false, false], I_aload 0, I_getf [(10, 11)], I_iload 4, I_iald, I_iret]
def K162_5 (E : En_) : List Ii_ := [I_mask [true, true, true, false, false], I_aload 0, I_iload 1, I_iload 2, I_callv [(10, 110)] [0, 0, 1] no_, I_iret]
def K162_6 (E : En_) : List Ii_ := [I_mask [true, false, false, false], I_aload 0, I_getf [(10, 13)], I_iload 4, I_iald, I_iret]
def K162_7 (E : En_) : List Ii_ := [I_mask [true, false, false, false], I_aload 0, I_getf [(10, 14)], I_iload 4, I_bald, I_ifeq 8, I_push (1), I_goto 9]
def K162_8 (E : En_) : List Ii_ := [I_mask [false, false, false, false, false], I_push (0), I_goto 9]
def K162_9 (E : En_) : List Ii_ := [I_mask [false, false, false, false, false], I_iret]
def K162_10 (E : En_) : List Ii_ := [I_mask [true, false, false, false], I_aload 0, I_iload 4, I_push (0), I_callv [(10, 163)] [0, 0, 1] no_, I_iret]
def K162_11 (E : En_) : List Ii_ := [I_mask [true, false, false, false], I_aload 0, I_iload 4, I_push (1), I_callv [(10, 163)] [0, 0, 1] no_, I_iret]
def K162_12 (E : En_) : List Ii_ := [I_mask [true, false, false, false], I_aload 0, I_iload 4, I_callv [(10, 165)] [0, 1] no_, I_iret]
def M162 : Mi_ := (⟨"SpiritWallModel", "edge", "(III)I"⟩, prog_12_method_85_code, 5, (Option.some Jvm.ClassFile.FieldType.int), [], 21)
/- T.loopsWith (IZ)I -/
def K163_0 (E : En_) : List Ii_ := [I_push (0), I_istore 3, I_push (0), I_istore 4, I_goto 1]
def K163_1 (E : En_) : List Ii_ := [I_iload 4, I_aload 0, I_callv [(10, 129)] [1] no_, I_icge 4, I_aload 0, I_iload 4, I_iload 1, I_callv [(10, 164)] [0, 0, 1] no_, I_ifeq 3, I_iload 2, I_ifeq 2, I_aload 0, I_iload 4, I_callv [(10, 131)] [0, 1] no_, I_ifne 3, I_goto 2]
def K163_2 (E : En_) : List Ii_ := [I_iload 3, I_push (1), I_iadd, I_istore 3, I_goto 3]
def K163_3 (E : En_) : List Ii_ := [I_iinc 4 (1), I_goto 1]
def K163_4 (E : En_) : List Ii_ := [I_mask [false, false, false, true, false], I_iload 3, I_iret]
def M163 : Mi_ := (⟨"SpiritWallModel", "loopsWith", "(IZ)I"⟩, prog_12_method_83_code, 5, (Option.some Jvm.ClassFile.FieldType.int), [], 20)
/- T.hasEdge (II)Z -/
def K164_0 (E : En_) : List Ii_ := [I_aload 0, I_iload 1, I_callv [(10, 135)] [0, 1] no_, I_iload 2, I_icne 1, I_push (1), I_nret .boolean]
def K164_1 (E : En_) : List Ii_ := [I_mask [true, true, true, false], I_aload 0, I_iload 1, I_callv [(10, 134)] [0, 1] no_, I_push (1), I_istore 3, I_goto 2]
def K164_2 (E : En_) : List Ii_ := [I_mask [true, false], I_iload 3, I_aload 0, I_getf [(10, 17)], I_icge 4, I_aload 0, I_getf [(10, 16)], I_iload 3, I_push (1), I_isub, I_iald, I_aload 0, I_getf [(10, 16)], I_iload 3, I_iald, I_call 116 [0, 0] no_, I_iload 2, I_icne 3, I_push (1), I_nret .boolean]
def K164_3 (E : En_) : List Ii_ := [I_mask [true, false], I_iinc 3 (1), I_goto 2]
def K164_4 (E : En_) : List Ii_ := [I_mask [false, false, false, false], I_push (0), I_nret .boolean]
def M164 : Mi_ := (⟨"SpiritWallModel", "hasEdge", "(II)Z"⟩, prog_12_method_60_code, 4, (Option.some Jvm.ClassFile.FieldType.boolean), [], 17)
/- T.spreadOf (I)I -/
def K165_0 (E : En_) : List Ii_ := [I_push (0), I_istore 2, I_push (0), I_istore 3, I_push (0), I_istore 4, I_push (0), I_istore 5, I_goto 1]
def K165_1 (E : En_) : List Ii_ := [I_mask [true, true, true, true, true, true, false], I_iload 5, I_aload 0, I_callv [(10, 112)] [1] no_, I_icge 10, I_aload 0, I_iload 5, I_callv [(10, 113)] [0, 1] no_, I_ifeq 9, I_aload 0, I_iload 5, I_callv [(10, 115)] [0, 1] no_, I_iload 1, I_iceq 2, I_goto 9]
def K165_2 (E : En_) : List Ii_ := [I_mask [true, true, true, true, true, true, false], I_aload 0, I_iload 5, I_callv [(10, 117)] [0, 1] no_, I_ifeq 3, I_aload 0, I_iload 5, I_callv [(10, 121)] [0, 1] no_, I_goto 4]
def K165_3 (E : En_) : List Ii_ := [I_mask [true, true, true, true, true, true, false], I_aload 0, I_iload 5, I_callv [(10, 121)] [0, 1] no_, I_ineg, I_goto 4]
def K165_4 (E : En_) : List Ii_ := [I_mask [true, true, true, true, true, true, false], I_istore 6, I_iload 4, I_ifeq 5, I_iload 2, I_iload 6, I_min, I_goto 6]
def K165_5 (E : En_) : List Ii_ := [I_mask [true, true, false], I_iload 6, I_goto 6]
def K165_6 (E : En_) : List Ii_ := [I_mask [true, true, false], I_istore 2, I_iload 4, I_ifeq 7, I_iload 3, I_iload 6, I_max, I_goto 8]
def K165_7 (E : En_) : List Ii_ := [I_mask [true, true, true, false, false], I_iload 6, I_goto 8]
def K165_8 (E : En_) : List Ii_ := [I_mask [true, true, true, false, false, true, false], I_istore 3, I_push (1), I_istore 4, I_goto 9]
def K165_9 (E : En_) : List Ii_ := [I_mask [true, true, true, true, true, true, false], I_iinc 5 (1), I_goto 1]
def K165_10 (E : En_) : List Ii_ := [I_mask [false, false, true, true, false, false, false], I_iload 3, I_iload 2, I_isub, I_iret]
def M165 : Mi_ := (⟨"SpiritWallModel", "spreadOf", "(I)I"⟩, prog_12_method_84_code, 7, (Option.some Jvm.ClassFile.FieldType.int), [], 6)
/- T.along (II)I -/
def K166_0 (E : En_) : List Ii_ := [I_aload 0, I_aload 0, I_iload 1, I_iload 2, I_callv [(10, 148)] [0, 0, 1] no_, I_callv [(10, 97)] [0, 1] no_, I_ifne 1, I_push (0), I_iret]
def K166_1 (E : En_) : List Ii_ := [I_aload 0, I_callv [(10, 102)] [1] no_, I_aload 0, I_iload 1, I_iload 2, I_callv [(10, 136)] [0, 0, 1] no_, I_ifeq 2, I_aload 0, I_callv [(10, 137)] [1] no_, I_goto 3]
def K166_2 (E : En_) : List Ii_ := [I_mask [false, false, false], I_push (-10000000), I_goto 3]
def K166_3 (E : En_) : List Ii_ := [I_mask [false, false, false], I_iret]
def M166 : Mi_ := (⟨"SpiritWallModel", "along", "(II)I"⟩, prog_12_method_86_code, 3, (Option.some Jvm.ClassFile.FieldType.int), [], 16)
/- T.loop (II)I -/
def K167_0 (E : En_) : List Ii_ := [I_aload 0, I_aload 0, I_iload 1, I_callv [(10, 168)] [0, 1] no_, I_callv [(10, 97)] [0, 1] no_, I_ifeq 1, I_aload 0, I_iload 2, I_i2l, I_pushl (0), I_pushl (5), I_call 145 [2, 2, 2] no_, I_push (2), I_callv [(10, 151)] [0, 0, 1] no_, I_ifne 2, I_goto 1]
def K167_1 (E : En_) : List Ii_ := [I_mask [false, false, false], I_push (0), I_iret]
def K167_2 (E : En_) : List Ii_ := [I_iload 2, I_tsw 0 [3, 4, 5, 6, 7] 8]
def K167_3 (E : En_) : List Ii_ := [I_mask [true, true, false], I_aload 0, I_iload 1, I_callv [(10, 135)] [0, 1] no_, I_push (12), I_idiv, I_iret]
def K167_4 (E : En_) : List Ii_ := [I_mask [true, true, false], I_aload 0, I_iload 1, I_callv [(10, 135)] [0, 1] no_, I_push (12), I_irem, I_iret]
def K167_5 (E : En_) : List Ii_ := [I_mask [true, true, false], I_aload 0, I_iload 1, I_callv [(10, 169)] [0, 1] no_, I_iret]
def K167_6 (E : En_) : List Ii_ := [I_mask [true, true, false], I_aload 0, I_iload 1, I_callv [(10, 139)] [0, 1] no_, I_iret]
def K167_7 (E : En_) : List Ii_ := [I_mask [true, true, false], I_aload 0, I_iload 1, I_callv [(10, 133)] [0, 1] no_, I_iret]
def K167_8 (E : En_) : List Ii_ := [I_mask [true, true, false], I_aload 0, I_iload 1, I_callv [(10, 131)] [0, 1] no_, I_ifeq 9, I_push (1), I_goto 10]
def K167_9 (E : En_) : List Ii_ := [I_mask [false, false, false], I_push (0), I_goto 10]
def K167_10 (E : En_) : List Ii_ := [I_mask [false, false, false], I_iret]
def M167 : Mi_ := (⟨"SpiritWallModel", "loop", "(II)I"⟩, prog_12_method_89_code, 3, (Option.some Jvm.ClassFile.FieldType.int), [], 20)
/- T.isLoop (I)Z -/
def K168_0 (E : En_) : List Ii_ := [I_aload 0, I_callv [(10, 102)] [1] no_, I_iload 1, I_i2l, I_pushl (0), I_aload 0, I_callv [(10, 129)] [1] no_, I_push (1), I_isub, I_i2l, I_call 145 [2, 2, 2] no_, I_nret .boolean]
def M168 : Mi_ := (⟨"SpiritWallModel", "isLoop", "(I)Z"⟩, prog_12_method_87_code, 2, (Option.some Jvm.ClassFile.FieldType.boolean), [], 10)
/- T.edgesOfLoop (I)I -/
def K169_0 (E : En_) : List Ii_ := [I_aload 0, I_iload 1, I_callv [(10, 134)] [0, 1] no_, I_aload 0, I_getf [(10, 17)], I_iret]
def M169 : Mi_ := (⟨"SpiritWallModel", "edgesOfLoop", "(I)I"⟩, prog_12_method_88_code, 2, (Option.some Jvm.ClassFile.FieldType.int), [], 17)
/- T.loopMark (II)I -/
def K170_0 (E : En_) : List Ii_ := [I_aload 0, I_aload 0, I_iload 1, I_callv [(10, 168)] [0, 1] no_, I_callv [(10, 97)] [0, 1] no_, I_ifne 1, I_push (0), I_iret]
def K170_1 (E : En_) : List Ii_ := [I_aload 0, I_iload 1, I_callv [(10, 134)] [0, 1] no_, I_iload 2, I_i2l, I_pushl (0), I_aload 0, I_getf [(10, 17)], I_push (1), I_isub, I_i2l, I_call 145 [2, 2, 2] no_, I_ifne 2, I_push (-1), I_iret]
def K170_2 (E : En_) : List Ii_ := [I_iload 2, I_ifne 3, I_aload 0, I_iload 1, I_callv [(10, 135)] [0, 1] no_, I_push (12), I_idiv, I_goto 4]
def K170_3 (E : En_) : List Ii_ := [I_mask [true, false], I_aload 0, I_getf [(10, 16)], I_iload 2, I_push (1), I_isub, I_iald, I_goto 4]
def K170_4 (E : En_) : List Ii_ := [I_mask [false, false, false], I_iret]
def M170 : Mi_ := (⟨"SpiritWallModel", "loopMark", "(II)I"⟩, prog_12_method_90_code, 3, (Option.some Jvm.ClassFile.FieldType.int), [], 17)
/- T.worstLoop ()I -/
def K171_0 (E : En_) : List Ii_ := [I_aload 0, I_push (0), I_putf [(10, 0)] (.int), I_aload 0, I_callv [(10, 102)] [1] no_, I_push (-1), I_istore 1, I_pushl (0), I_lstore 2, I_pushl (1), I_lstore 4, I_push (0), I_istore 6, I_goto 1]
def K171_1 (E : En_) : List Ii_ := [I_mask [true, true, true, false, true, false, true, false, false, false, false], I_iload 6, I_aload 0, I_callv [(10, 129)] [1] no_, I_icge 4, I_aload 0, I_iload 6, I_callv [(10, 133)] [0, 1] no_, I_i2l, I_lstore 7, I_aload 0, I_iload 6, I_callv [(10, 139)] [0, 1] no_, I_i2l, I_lstore 9, I_iload 1, I_push (-1), I_iceq 2, I_lload 7, I_lload 7, I_lmul, I_lload 4, I_lmul, I_lload 2, I_lload 9, I_lmul, I_lcmp, I_ifgt 2, I_goto 3]
def K171_2 (E : En_) : List Ii_ := [I_mask [true, false, false, false, false, false, true, true, false, true, false], I_iload 6, I_istore 1, I_lload 7, I_lload 7, I_lmul, I_lstore 2, I_lload 9, I_lstore 4, I_goto 3]
def K171_3 (E : En_) : List Ii_ := [I_mask [true, true, true, false, true, false, true, false, false, false, false], I_iinc 6 (1), I_goto 1]
def K171_4 (E : En_) : List Ii_ := [I_mask [false, true, false, false, false, false, false, false, false, false, false], I_iload 1, I_iret]
def M171 : Mi_ := (⟨"SpiritWallModel", "worstLoop", "()I"⟩, prog_12_method_91_code, 11, (Option.some Jvm.ClassFile.FieldType.int), [], 18)
/- T.suspect ()I -/
def K172_0 (E : En_) : List Ii_ := [I_aload 0, I_push (0), I_putf [(10, 0)] (.int), I_aload 0, I_callv [(10, 102)] [1] no_, I_aload 0, I_callv [(10, 130)] [1] no_, I_aload 0, I_callv [(10, 129)] [1] no_, I_icne 1, I_push (-1), I_iret]
def K172_1 (E : En_) : List Ii_ := [I_mask [true, false, false, false, false, false, false], I_push (-1), I_istore 1, I_push (0), I_istore 2, I_push (0), I_istore 3, I_push (0), I_istore 4, I_goto 2]
def K172_2 (E : En_) : List Ii_ := [I_mask [true, true, true, true, true, false, false], I_iload 4, I_push (144), I_icge 6, I_aload 0, I_getf [(10, 11)], I_iload 4, I_iald, I_ifne 3, I_goto 5]
def K172_3 (E : En_) : List Ii_ := [I_mask [true, true, true, true, true, false, false], I_aload 0, I_iload 4, I_push (1), I_callv [(10, 163)] [0, 0, 1] no_, I_istore 5, I_aload 0, I_iload 4, I_push (0), I_callv [(10, 163)] [0, 0, 1] no_, I_iload 5, I_isub, I_istore 6, I_iload 1, I_push (-1), I_iceq 4, I_iload 5, I_iload 2, I_iclt 5, I_iload 5, I_iload 2, I_icne 4, I_iload 6, I_iload 3, I_iclt 4, I_goto 5]
def K172_4 (E : En_) : List Ii_ := [I_mask [true, false, false, false], I_iload 4, I_istore 1, I_iload 5, I_istore 2, I_iload 6, I_istore 3, I_goto 5]
def K172_5 (E : En_) : List Ii_ := [I_mask [true, true, true, true, true, false, false], I_iinc 4 (1), I_goto 2]
def K172_6 (E : En_) : List Ii_ := [I_mask [false, true, false, false, false, false, false], I_iload 1, I_iret]
def M172 : Mi_ := (⟨"SpiritWallModel", "suspect", "()I"⟩, prog_12_method_92_code, 7, (Option.some Jvm.ClassFile.FieldType.int), [], 21)
/- T.outlier ()I -/
def K173_0 (E : En_) : List Ii_ := [I_aload 0, I_push (0), I_putf [(10, 0)] (.int), I_aload 0, I_callv [(10, 102)] [1] no_, I_push (-1), I_istore 1, I_push (-1), I_istore 2, I_push (0), I_istore 3, I_goto 1]
def K173_1 (E : En_) : List Ii_ := [I_mask [true, true, true, true, false], I_iload 3, I_aload 0, I_callv [(10, 112)] [1] no_, I_icge 5, I_aload 0, I_iload 3, I_callv [(10, 113)] [0, 1] no_, I_ifeq 4, I_aload 0, I_getf [(10, 11)], I_aload 0, I_iload 3, I_callv [(10, 115)] [0, 1] no_, I_iald, I_push (3), I_icge 2, I_goto 4]
def K173_2 (E : En_) : List Ii_ := [I_mask [true, true, true, true, false], I_aload 0, I_iload 3, I_callv [(10, 121)] [0, 1] no_, I_aload 0, I_aload 0, I_iload 3, I_push (0), I_callv [(10, 114)] [0, 0, 1] no_, I_aload 0, I_iload 3, I_push (1), I_callv [(10, 114)] [0, 0, 1] no_, I_callv [(10, 138)] [0, 0, 1] no_, I_isub, I_abs, I_istore 4, I_iload 4, I_iload 2, I_icgt 3, I_goto 4]
def K173_3 (E : En_) : List Ii_ := [I_mask [true, false, false], I_iload 3, I_istore 1, I_iload 4, I_istore 2, I_goto 4]
def K173_4 (E : En_) : List Ii_ := [I_mask [true, true, true, true, false], I_iinc 3 (1), I_goto 1]
def K173_5 (E : En_) : List Ii_ := [I_mask [false, true, false, false, false], I_iload 1, I_iret]
def M173 : Mi_ := (⟨"SpiritWallModel", "outlier", "()I"⟩, prog_12_method_93_code, 5, (Option.some Jvm.ClassFile.FieldType.int), [], 10)
/- T.misfit ()J -/
def K174_0 (E : En_) : List Ii_ := [I_aload 0, I_push (0), I_putf [(10, 0)] (.int), I_aload 0, I_callv [(10, 175)] [1] no_, I_lret]
def M174 : Mi_ := (⟨"SpiritWallModel", "misfit", "()J"⟩, prog_12_method_94_code, 1, (Option.some Jvm.ClassFile.FieldType.long), [], 11)
/- T.misfitNow ()J -/
def K175_0 (E : En_) : List Ii_ := [I_aload 0, I_callv [(10, 102)] [1] no_, I_pushl (0), I_lstore 1, I_push (0), I_istore 3, I_goto 1]
def K175_1 (E : En_) : List Ii_ := [I_mask [true, true, false, true, false, false, false], I_iload 3, I_aload 0, I_callv [(10, 106)] [1] no_, I_icge 6, I_iload 3, I_push (1), I_iadd, I_istore 4, I_goto 2]
def K175_2 (E : En_) : List Ii_ := [I_mask [true, true, false, true, true, false, false], I_iload 4, I_aload 0, I_callv [(10, 106)] [1] no_, I_icge 5, I_aload 0, I_iload 3, I_iload 4, I_callv [(10, 123)] [0, 0, 1] no_, I_ifeq 4, I_aload 0, I_iload 3, I_callv [(10, 142)] [0, 1] no_, I_ifeq 4, I_aload 0, I_iload 4, I_callv [(10, 142)] [0, 1] no_, I_ifne 3, I_goto 4]
def K175_3 (E : En_) : List Ii_ := [I_mask [true, true, false, true, true, false, false], I_aload 0, I_getf [(10, 12)], I_iload 3, I_iload 4, I_call 116 [0, 0] no_, I_iald, I_i2l, I_aload 0, I_iload 4, I_push (4), I_callv [(10, 111)] [0, 0, 1] no_, I_i2l, I_aload 0, I_iload 3, I_push (4), I_callv [(10, 111)] [0, 0, 1] no_, I_i2l, I_lsub, I_lsub, I_lstore 5, I_lload 1, I_lload 5, I_lload 5, I_lmul, I_ladd, I_lstore 1, I_goto 4]
def K175_4 (E : En_) : List Ii_ := [I_mask [true, true, false, true, true, false, false], I_iinc 4 (1), I_goto 2]
def K175_5 (E : En_) : List Ii_ := [I_mask [true, true, false, true, false, false, false], I_iinc 3 (1), I_goto 1]
def K175_6 (E : En_) : List Ii_ := [I_mask [false, true, false, false, false, false, false], I_lload 1, I_lret]
def M175 : Mi_ := (⟨"SpiritWallModel", "misfitNow", "()J"⟩, prog_12_method_67_code, 7, (Option.some Jvm.ClassFile.FieldType.long), [], 10)
/- T.tension (I)I -/
def K176_0 (E : En_) : List Ii_ := [I_aload 0, I_aload 0, I_iload 1, I_callv [(10, 149)] [0, 1] no_, I_callv [(10, 97)] [0, 1] no_, I_ifne 1, I_push (0), I_iret]
def K176_1 (E : En_) : List Ii_ := [I_aload 0, I_callv [(10, 102)] [1] no_, I_aload 0, I_iload 1, I_callv [(10, 142)] [0, 1] no_, I_ifeq 2, I_aload 0, I_iload 1, I_callv [(10, 177)] [0, 1] no_, I_goto 3]
def K176_2 (E : En_) : List Ii_ := [I_mask [false, false], I_push (-10000000), I_goto 3]
def K176_3 (E : En_) : List Ii_ := [I_mask [false, false], I_iret]
def M176 : Mi_ := (⟨"SpiritWallModel", "tension", "(I)I"⟩, prog_12_method_96_code, 2, (Option.some Jvm.ClassFile.FieldType.int), [], 10)
/- T.tensionOf (I)I -/
def K177_0 (E : En_) : List Ii_ := [I_push (0), I_istore 2, I_push (0), I_istore 3, I_goto 1]
def K177_1 (E : En_) : List Ii_ := [I_iload 3, I_aload 0, I_callv [(10, 106)] [1] no_, I_icge 3, I_aload 0, I_iload 3, I_iload 1, I_callv [(10, 123)] [0, 0, 1] no_, I_ifeq 2, I_aload 0, I_iload 3, I_callv [(10, 142)] [0, 1] no_, I_ifeq 2, I_iload 2, I_aload 0, I_iload 1, I_push (4), I_callv [(10, 111)] [0, 0, 1] no_, I_aload 0, I_iload 3, I_push (4), I_callv [(10, 111)] [0, 0, 1] no_, I_isub, I_aload 0, I_iload 3, I_iload 1, I_callv [(10, 138)] [0, 0, 1] no_, I_isub, I_abs, I_max, I_istore 2, I_goto 2]
def K177_2 (E : En_) : List Ii_ := [I_iinc 3 (1), I_goto 1]
def K177_3 (E : En_) : List Ii_ := [I_mask [false, false, true, false], I_iload 2, I_iret]
def M177 : Mi_ := (⟨"SpiritWallModel", "tensionOf", "(I)I"⟩, prog_12_method_95_code, 4, (Option.some Jvm.ClassFile.FieldType.int), [], 3)
/- T.tensest ()I -/
def K178_0 (E : En_) : List Ii_ := [I_aload 0, I_push (0), I_putf [(10, 0)] (.int), I_aload 0, I_callv [(10, 102)] [1] no_, I_push (-1), I_istore 1, I_push (0), I_istore 2, I_push (0), I_istore 3, I_goto 1]
def K178_1 (E : En_) : List Ii_ := [I_mask [true, true, true, true, false], I_iload 3, I_aload 0, I_callv [(10, 106)] [1] no_, I_icge 6, I_aload 0, I_iload 3, I_callv [(10, 142)] [0, 1] no_, I_ifeq 2, I_aload 0, I_iload 3, I_callv [(10, 177)] [0, 1] no_, I_goto 3]
def K178_2 (E : En_) : List Ii_ := [I_mask [true, true, true, true, false], I_push (0), I_goto 3]
def K178_3 (E : En_) : List Ii_ := [I_mask [true, true, true, true, false], I_istore 4, I_iload 4, I_iload 2, I_icgt 4, I_goto 5]
def K178_4 (E : En_) : List Ii_ := [I_mask [true, false, false], I_iload 3, I_istore 1, I_iload 4, I_istore 2, I_goto 5]
def K178_5 (E : En_) : List Ii_ := [I_mask [true, true, true, true, false], I_iinc 3 (1), I_goto 1]
def K178_6 (E : En_) : List Ii_ := [I_mask [false, true, false, false, false], I_iload 1, I_iret]
def M178 : Mi_ := (⟨"SpiritWallModel", "tensest", "()I"⟩, prog_12_method_97_code, 5, (Option.some Jvm.ClassFile.FieldType.int), [], 10)
/- T.neighbour (II)I -/
def K179_0 (E : En_) : List Ii_ := [I_aload 0, I_aload 0, I_iload 1, I_callv [(10, 149)] [0, 1] no_, I_callv [(10, 97)] [0, 1] no_, I_ifne 1, I_push (0), I_iret]
def K179_1 (E : En_) : List Ii_ := [I_mask [true, true, true, false, false], I_aload 0, I_callv [(10, 102)] [1] no_, I_iload 2, I_istore 3, I_push (0), I_istore 4, I_goto 2]
def K179_2 (E : En_) : List Ii_ := [I_mask [true, true, false], I_iload 4, I_aload 0, I_callv [(10, 106)] [1] no_, I_icge 6, I_iload 3, I_iflt 6, I_aload 0, I_iload 1, I_iload 4, I_callv [(10, 123)] [0, 0, 1] no_, I_ifne 3, I_goto 5]
def K179_3 (E : En_) : List Ii_ := [I_mask [true, true, false], I_iload 3, I_ifne 4, I_iload 4, I_iret]
def K179_4 (E : En_) : List Ii_ := [I_mask [true, true, false], I_iload 3, I_push (1), I_isub, I_istore 3, I_goto 5]
def K179_5 (E : En_) : List Ii_ := [I_mask [true, true, false], I_iinc 4 (1), I_goto 2]
def K179_6 (E : En_) : List Ii_ := [I_mask [false, false, false, false, false], I_push (-1), I_iret]
def M179 : Mi_ := (⟨"SpiritWallModel", "neighbour", "(II)I"⟩, prog_12_method_98_code, 5, (Option.some Jvm.ClassFile.FieldType.int), [], 10)
/- T.loopsOf (I)I -/
def K180_0 (E : En_) : List Ii_ := [I_aload 0, I_aload 0, I_iload 1, I_callv [(10, 149)] [0, 1] no_, I_callv [(10, 97)] [0, 1] no_, I_ifne 1, I_push (0), I_iret]
def K180_1 (E : En_) : List Ii_ := [I_mask [true, true, false, false], I_aload 0, I_callv [(10, 102)] [1] no_, I_push (0), I_istore 2, I_push (0), I_istore 3, I_goto 2]
def K180_2 (E : En_) : List Ii_ := [I_iload 3, I_aload 0, I_callv [(10, 129)] [1] no_, I_icge 4, I_aload 0, I_iload 3, I_iload 1, I_callv [(10, 181)] [0, 0, 1] no_, I_ifeq 3, I_iload 2, I_push (1), I_iadd, I_istore 2, I_goto 3]
def K180_3 (E : En_) : List Ii_ := [I_iinc 3 (1), I_goto 2]
def K180_4 (E : En_) : List Ii_ := [I_mask [false, false, true, false], I_iload 2, I_iret]
def M180 : Mi_ := (⟨"SpiritWallModel", "loopsOf", "(I)I"⟩, prog_12_method_100_code, 4, (Option.some Jvm.ClassFile.FieldType.int), [], 18)
/- T.hasMark (II)Z -/
def K181_0 (E : En_) : List Ii_ := [I_aload 0, I_iload 1, I_callv [(10, 134)] [0, 1] no_, I_push (0), I_istore 3, I_goto 1]
def K181_1 (E : En_) : List Ii_ := [I_mask [true, false], I_iload 3, I_aload 0, I_getf [(10, 17)], I_icge 3, I_aload 0, I_getf [(10, 16)], I_iload 3, I_iald, I_iload 2, I_icne 2, I_push (1), I_nret .boolean]
def K181_2 (E : En_) : List Ii_ := [I_mask [true, false], I_iinc 3 (1), I_goto 1]
def K181_3 (E : En_) : List Ii_ := [I_mask [false, false, false, false], I_push (0), I_nret .boolean]
def M181 : Mi_ := (⟨"SpiritWallModel", "hasMark", "(II)Z"⟩, prog_12_method_99_code, 4, (Option.some Jvm.ClassFile.FieldType.boolean), [], 17)
/- T.bridges ()I -/
def K182_0 (E : En_) : List Ii_ := [I_aload 0, I_push (0), I_putf [(10, 0)] (.int), I_aload 0, I_callv [(10, 102)] [1] no_, I_push (0), I_istore 1, I_push (0), I_istore 2, I_goto 1]
def K182_1 (E : En_) : List Ii_ := [I_iload 2, I_push (144), I_icge 3, I_aload 0, I_getf [(10, 11)], I_iload 2, I_iald, I_ifle 2, I_aload 0, I_iload 2, I_push (0), I_callv [(10, 163)] [0, 0, 1] no_, I_ifne 2, I_iload 1, I_push (1), I_iadd, I_istore 1, I_goto 2]
def K182_2 (E : En_) : List Ii_ := [I_iinc 2 (1), I_goto 1]
def K182_3 (E : En_) : List Ii_ := [I_mask [false, true, false], I_iload 1, I_iret]
def M182 : Mi_ := (⟨"SpiritWallModel", "bridges", "()I"⟩, prog_12_method_101_code, 3, (Option.some Jvm.ClassFile.FieldType.int), [], 21)
/- T.meanSwings ()D -/
def K183_0 (E : En_) : List Ii_ := [I_aload 0, I_push (0), I_putf [(10, 0)] (.int), I_push (0), I_istore 1, I_push (0), I_istore 2, I_push (0), I_istore 3, I_goto 1]
def K183_1 (E : En_) : List Ii_ := [I_iload 3, I_aload 0, I_callv [(10, 112)] [1] no_, I_icge 4, I_aload 0, I_iload 3, I_callv [(10, 113)] [0, 1] no_, I_ifne 2, I_goto 3]
def K183_2 (E : En_) : List Ii_ := [I_iload 1, I_aload 0, I_aload 0, I_iload 3, I_push (0), I_callv [(10, 114)] [0, 0, 1] no_, I_aload 0, I_iload 3, I_push (1), I_callv [(10, 114)] [0, 0, 1] no_, I_callv [(10, 109)] [0, 0, 1] no_, I_iadd, I_istore 1, I_iload 2, I_push (1), I_iadd, I_istore 2, I_goto 3]
def K183_3 (E : En_) : List Ii_ := [I_iinc 3 (1), I_goto 1]
def K183_4 (E : En_) : List Ii_ := [I_mask [false, true, true, false], I_iload 2, I_ifne 5, I_dc0, I_goto 6]
def K183_5 (E : En_) : List Ii_ := [I_mask [false, true, true, false], I_iload 1, I_i2d, I_iload 2, I_i2d, I_ddiv, I_goto 6]
def K183_6 (E : En_) : List Ii_ := [I_mask [false, false, false, false], I_dret]
def M183 : Mi_ := (⟨"SpiritWallModel", "meanSwings", "()D"⟩, prog_12_method_102_code, 4, (Option.some Jvm.ClassFile.FieldType.double), [], 4)
/- T.closedShare ()F -/
def K184_0 (E : En_) : List Ii_ := [I_aload 0, I_push (0), I_putf [(10, 0)] (.int), I_aload 0, I_callv [(10, 102)] [1] no_, I_aload 0, I_callv [(10, 129)] [1] no_, I_ifne 1, I_fc1, I_goto 2]
def K184_1 (E : En_) : List Ii_ := [I_aload 0, I_callv [(10, 130)] [1] no_, I_i2f, I_aload 0, I_callv [(10, 129)] [1] no_, I_i2f, I_fdiv, I_goto 2]
def K184_2 (E : En_) : List Ii_ := [I_mask [false], I_fret]
def M184 : Mi_ := (⟨"SpiritWallModel", "closedShare", "()F"⟩, prog_12_method_103_code, 1, (Option.some Jvm.ClassFile.FieldType.float), [], 21)
/- T.closedIf (I)I -/
def K185_0 (E : En_) : List Ii_ := [I_aload 0, I_aload 0, I_iload 1, I_callv [(10, 160)] [0, 1] no_, I_callv [(10, 97)] [0, 1] no_, I_ifne 1, I_push (0), I_iret]
def K185_1 (E : En_) : List Ii_ := [I_mask [true, true, false], I_aload 0, I_iload 1, I_callv [(10, 186)] [0, 1] no_, I_aload 0, I_callv [(10, 130)] [1] no_, I_istore 2, I_aload 0, I_iload 1, I_callv [(10, 186)] [0, 1] no_, I_iload 2, I_iret]
def M185 : Mi_ := (⟨"SpiritWallModel", "closedIf", "(I)I"⟩, prog_12_method_105_code, 3, (Option.some Jvm.ClassFile.FieldType.int), [], 21)
/- T.turns (I)V -/
def K186_0 (E : En_) : List Ii_ := [I_aload 0, I_iload 1, I_push (5), I_push (1), I_aload 0, I_iload 1, I_push (5), I_callv [(10, 114)] [0, 0, 1] no_, I_isub, I_callv [(10, 187)] [0, 0, 0, 1] no_, I_aload 0, I_callv [(10, 102)] [1] no_, I_vret]
def M186 : Mi_ := (⟨"SpiritWallModel", "turns", "(I)V"⟩, prog_12_method_104_code, 2, (Option.none : Option Jvm.ClassFile.FieldType), [], 10)
/- T.laysSight (III)V -/
def K187_0 (E : En_) : List Ii_ := [I_aload 0, I_getf [(10, 1)], I_push (68), I_push (6), I_iload 1, I_imul, I_iadd, I_iload 2, I_iadd, I_iload 3, I_iast, I_vret]
def M187 : Mi_ := (⟨"SpiritWallModel", "laysSight", "(III)V"⟩, prog_12_method_23_code, 4, (Option.none : Option Jvm.ClassFile.FieldType), [], 1)
/- T.bestStrike ()I -/
def K188_0 (E : En_) : List Ii_ := [I_aload 0, I_push (0), I_putf [(10, 0)] (.int), I_push (-1), I_istore 1, I_push (0), I_istore 2, I_push (0), I_istore 3, I_goto 1]
def K188_1 (E : En_) : List Ii_ := [I_mask [true, true, true, true, false], I_iload 3, I_aload 0, I_callv [(10, 112)] [1] no_, I_icge 5, I_aload 0, I_iload 3, I_callv [(10, 113)] [0, 1] no_, I_ifne 2, I_goto 4]
def K188_2 (E : En_) : List Ii_ := [I_mask [true, true, true, true, false], I_aload 0, I_iload 3, I_callv [(10, 186)] [0, 1] no_, I_aload 0, I_callv [(10, 129)] [1] no_, I_aload 0, I_callv [(10, 130)] [1] no_, I_isub, I_istore 4, I_aload 0, I_iload 3, I_callv [(10, 186)] [0, 1] no_, I_iload 1, I_push (-1), I_iceq 3, I_iload 4, I_iload 2, I_iclt 3, I_goto 4]
def K188_3 (E : En_) : List Ii_ := [I_mask [true, false, false], I_iload 3, I_istore 1, I_iload 4, I_istore 2, I_goto 4]
def K188_4 (E : En_) : List Ii_ := [I_mask [true, true, true, true, false], I_iinc 3 (1), I_goto 1]
def K188_5 (E : En_) : List Ii_ := [I_mask [false, true, false, false, false], I_iload 1, I_iret]
def M188 : Mi_ := (⟨"SpiritWallModel", "bestStrike", "()I"⟩, prog_12_method_106_code, 5, (Option.some Jvm.ClassFile.FieldType.int), [], 21)
/- T.errorWith (I)I -/
def K189_0 (E : En_) : List Ii_ := [I_aload 0, I_iload 1, I_i2l, I_pushl (1), I_pushl (9999), I_call 145 [2, 2, 2] no_, I_callv [(10, 97)] [0, 1] no_, I_ifne 1, I_push (0), I_iret]
def K189_1 (E : En_) : List Ii_ := [I_mask [true, true, false, false], I_aload 0, I_getf [(10, 1)], I_push (2), I_iald, I_istore 2, I_aload 0, I_getf [(10, 1)], I_push (2), I_iload 1, I_iast, I_aload 0, I_callv [(10, 105)] [1] no_, I_istore 3, I_aload 0, I_getf [(10, 1)], I_push (2), I_iload 2, I_iast, I_iload 3, I_iret]
def M189 : Mi_ := (⟨"SpiritWallModel", "errorWith", "(I)I"⟩, prog_12_method_107_code, 4, (Option.some Jvm.ClassFile.FieldType.int), [], 7)
/- T.misfitAfter (I)J -/
def K190_0 (E : En_) : List Ii_ := [I_aload 0, I_iload 1, I_i2l, I_pushl (0), I_pushl (50), I_call 145 [2, 2, 2] no_, I_callv [(10, 97)] [0, 1] no_, I_ifne 1, I_pushl (0), I_lret]
def K190_1 (E : En_) : List Ii_ := [I_mask [true, true, false, false, false], I_aload 0, I_callv [(10, 191)] [1] no_, I_aload 0, I_callv [(10, 192)] [1] no_, I_aload 0, I_iload 1, I_callv [(10, 195)] [0, 1] no_, I_istore 2, I_aload 0, I_callv [(10, 175)] [1] no_, I_lstore 3, I_aload 0, I_callv [(10, 197)] [1] no_, I_lload 3, I_lret]
def M190 : Mi_ := (⟨"SpiritWallModel", "misfitAfter", "(I)J"⟩, prog_12_method_108_code, 5, (Option.some Jvm.ClassFile.FieldType.long), [], 11)
/- T.tries ()V -/
def K191_0 (E : En_) : List Ii_ := [I_aload 0, I_getf [(10, 1)], I_aload 0, I_getf [(10, 3)], I_call 99 [1, 1] no_, I_vret]
def M191 : Mi_ := (⟨"SpiritWallModel", "tries", "()V"⟩, prog_12_method_13_code, 1, (Option.none : Option Jvm.ClassFile.FieldType), [], 2)
/- T.levels ()V -/
def K192_0 (E : En_) : List Ii_ := [I_aload 0, I_callv [(10, 102)] [1] no_, I_push (0), I_istore 1, I_goto 1]
def K192_1 (E : En_) : List Ii_ := [I_mask [true, true, false, false], I_iload 1, I_aload 0, I_callv [(10, 106)] [1] no_, I_icge 2, I_aload 0, I_iload 1, I_push (3), I_aload 0, I_iload 1, I_push (2), I_callv [(10, 111)] [0, 0, 1] no_, I_callv [(10, 193)] [0, 0, 0, 1] no_, I_aload 0, I_getf [(10, 18)], I_iload 1, I_push (0), I_iast, I_iinc 1 (1), I_goto 1]
def K192_2 (E : En_) : List Ii_ := [I_mask [true, false, false, false], I_aload 0, I_callv [(10, 194)] [1] no_, I_istore 1, I_goto 3]
def K192_3 (E : En_) : List Ii_ := [I_mask [true, true, false, false], I_iload 1, I_push (-1), I_iceq 4, I_iload 1, I_push (12), I_idiv, I_istore 2, I_iload 1, I_push (12), I_irem, I_istore 3, I_aload 0, I_iload 2, I_push (3), I_push (1), I_callv [(10, 193)] [0, 0, 0, 1] no_, I_aload 0, I_iload 2, I_push (4), I_aload 0, I_iload 3, I_push (4), I_callv [(10, 111)] [0, 0, 1] no_, I_aload 0, I_iload 3, I_iload 2, I_callv [(10, 138)] [0, 0, 1] no_, I_iadd, I_callv [(10, 193)] [0, 0, 0, 1] no_, I_aload 0, I_getf [(10, 18)], I_iload 2, I_aload 0, I_getf [(10, 18)], I_iload 3, I_iald, I_aload 0, I_iload 3, I_iload 2, I_callv [(10, 110)] [0, 0, 1] no_, I_iadd, I_iast, I_aload 0, I_callv [(10, 194)] [1] no_, I_istore 1, I_goto 3]
def K192_4 (E : En_) : List Ii_ := [I_mask [false, false, false, false], I_vret]
def M192 : Mi_ := (⟨"SpiritWallModel", "levels", "()V"⟩, prog_12_method_64_code, 4, (Option.none : Option Jvm.ClassFile.FieldType), [], 10)
/- T.lays (III)V -/
def K193_0 (E : En_) : List Ii_ := [I_aload 0, I_getf [(10, 1)], I_push (8), I_push (5), I_iload 1, I_imul, I_iadd, I_iload 2, I_iadd, I_iload 3, I_iast, I_vret]
def M193 : Mi_ := (⟨"SpiritWallModel", "lays", "(III)V"⟩, prog_12_method_21_code, 4, (Option.none : Option Jvm.ClassFile.FieldType), [], 1)
/- T.nextHeight ()I -/
def K194_0 (E : En_) : List Ii_ := [I_push (-1), I_istore 1, I_push (0), I_istore 2, I_goto 1]
def K194_1 (E : En_) : List Ii_ := [I_mask [true, true, true, false], I_iload 2, I_aload 0, I_callv [(10, 106)] [1] no_, I_icge 7, I_push (0), I_istore 3, I_goto 2]
def K194_2 (E : En_) : List Ii_ := [I_iload 3, I_aload 0, I_callv [(10, 106)] [1] no_, I_icge 6, I_aload 0, I_iload 2, I_callv [(10, 142)] [0, 1] no_, I_ifne 5, I_aload 0, I_iload 3, I_callv [(10, 142)] [0, 1] no_, I_ifeq 5, I_aload 0, I_iload 3, I_iload 2, I_callv [(10, 123)] [0, 0, 1] no_, I_ifne 3, I_goto 5]
def K194_3 (E : En_) : List Ii_ := [I_iload 1, I_push (-1), I_iceq 4, I_aload 0, I_getf [(10, 18)], I_iload 3, I_iald, I_aload 0, I_iload 3, I_iload 2, I_callv [(10, 110)] [0, 0, 1] no_, I_iadd, I_aload 0, I_getf [(10, 18)], I_iload 1, I_push (12), I_irem, I_iald, I_aload 0, I_iload 1, I_push (12), I_irem, I_iload 1, I_push (12), I_idiv, I_callv [(10, 110)] [0, 0, 1] no_, I_iadd, I_icge 5, I_goto 4]
def K194_4 (E : En_) : List Ii_ := [I_mask [true, false], I_push (12), I_iload 2, I_imul, I_iload 3, I_iadd, I_istore 1, I_goto 5]
def K194_5 (E : En_) : List Ii_ := [I_iinc 3 (1), I_goto 2]
def K194_6 (E : En_) : List Ii_ := [I_mask [true, true, true, false], I_iinc 2 (1), I_goto 1]
def K194_7 (E : En_) : List Ii_ := [I_mask [false, true, false, false], I_iload 1, I_iret]
def M194 : Mi_ := (⟨"SpiritWallModel", "nextHeight", "()I"⟩, prog_12_method_63_code, 4, (Option.some Jvm.ClassFile.FieldType.int), [], 3)
/- T.rounds (I)I -/
def K195_0 (E : En_) : List Ii_ := [I_aload 0, I_callv [(10, 102)] [1] no_, I_push (0), I_istore 2, I_goto 1]
def K195_1 (E : En_) : List Ii_ := [I_mask [true, true, true, false, false], I_iload 2, I_iload 1, I_icge 6, I_push (0), I_istore 3, I_push (0), I_istore 4, I_goto 2]
def K195_2 (E : En_) : List Ii_ := [I_iload 4, I_aload 0, I_callv [(10, 106)] [1] no_, I_icge 4, I_aload 0, I_iload 4, I_callv [(10, 142)] [0, 1] no_, I_ifeq 3, I_aload 0, I_iload 4, I_callv [(10, 158)] [0, 1] no_, I_ifne 3, I_aload 0, I_iload 4, I_callv [(10, 196)] [0, 1] no_, I_ifeq 3, I_push (1), I_istore 3, I_goto 3]
def K195_3 (E : En_) : List Ii_ := [I_iinc 4 (1), I_goto 2]
def K195_4 (E : En_) : List Ii_ := [I_mask [true, true, true, true, false], I_iload 3, I_ifne 5, I_iload 2, I_iret]
def K195_5 (E : En_) : List Ii_ := [I_mask [true, true, true, false, false], I_iinc 2 (1), I_goto 1]
def K195_6 (E : En_) : List Ii_ := [I_mask [false, true, false, false, false], I_iload 1, I_iret]
def M195 : Mi_ := (⟨"SpiritWallModel", "rounds", "(I)I"⟩, prog_12_method_66_code, 5, (Option.some Jvm.ClassFile.FieldType.int), [], 10)
/- T.relaxes (I)Z -/
def K196_0 (E : En_) : List Ii_ := [I_pushl (0), I_lstore 2, I_pushl (0), I_lstore 4, I_push (0), I_istore 6, I_goto 1]
def K196_1 (E : En_) : List Ii_ := [I_mask [true, true, true, false, true, false], I_iload 6, I_aload 0, I_callv [(10, 106)] [1] no_, I_icge 4, I_aload 0, I_iload 6, I_iload 1, I_callv [(10, 123)] [0, 0, 1] no_, I_ifeq 3, I_aload 0, I_iload 6, I_callv [(10, 142)] [0, 1] no_, I_ifne 2, I_goto 3]
def K196_2 (E : En_) : List Ii_ := [I_mask [true, true, true, false, true, false], I_lload 2, I_aload 0, I_getf [(10, 13)], I_iload 6, I_iload 1, I_call 116 [0, 0] no_, I_iald, I_i2l, I_aload 0, I_iload 6, I_push (4), I_callv [(10, 111)] [0, 0, 1] no_, I_aload 0, I_iload 6, I_iload 1, I_callv [(10, 138)] [0, 0, 1] no_, I_iadd, I_i2l, I_lmul, I_ladd, I_lstore 2, I_lload 4, I_aload 0, I_getf [(10, 13)], I_iload 6, I_iload 1, I_call 116 [0, 0] no_, I_iald, I_i2l, I_ladd, I_lstore 4, I_goto 3]
def K196_3 (E : En_) : List Ii_ := [I_mask [true, true, true, false, true, false], I_iinc 6 (1), I_goto 1]
def K196_4 (E : En_) : List Ii_ := [I_mask [true, true, true, false, true, false, false], I_lload 4, I_pushl (0), I_lcmp, I_ifne 5, I_push (0), I_nret .boolean]
def K196_5 (E : En_) : List Ii_ := [I_mask [true, true, true, false, true, false, false], I_aload 0, I_iload 1, I_push (4), I_callv [(10, 111)] [0, 0, 1] no_, I_istore 6, I_aload 0, I_iload 1, I_push (4), I_lload 2, I_lload 4, I_call 14 [2, 2] no_, I_l2i, I_callv [(10, 193)] [0, 0, 0, 1] no_, I_aload 0, I_iload 1, I_push (4), I_callv [(10, 111)] [0, 0, 1] no_, I_iload 6, I_iceq 6, I_push (1), I_goto 7]
def K196_6 (E : En_) : List Ii_ := [I_mask [false, false, false, false, false, false, false], I_push (0), I_goto 7]
def K196_7 (E : En_) : List Ii_ := [I_mask [false, false, false, false, false, false, false], I_nret .boolean]
def M196 : Mi_ := (⟨"SpiritWallModel", "relaxes", "(I)Z"⟩, prog_12_method_65_code, 7, (Option.some Jvm.ClassFile.FieldType.boolean), [], 3)
/- T.laysBack ()V -/
def K197_0 (E : En_) : List Ii_ := [I_aload 0, I_getf [(10, 3)], I_aload 0, I_getf [(10, 1)], I_call 99 [1, 1] no_, I_vret]
def M197 : Mi_ := (⟨"SpiritWallModel", "laysBack", "()V"⟩, prog_12_method_14_code, 1, (Option.none : Option Jvm.ClassFile.FieldType), [], 2)
/- T.heightIf (I)I -/
def K198_0 (E : En_) : List Ii_ := [I_aload 0, I_aload 0, I_iload 1, I_callv [(10, 149)] [0, 1] no_, I_callv [(10, 97)] [0, 1] no_, I_ifne 1, I_push (0), I_iret]
def K198_1 (E : En_) : List Ii_ := [I_mask [true, true, false], I_aload 0, I_callv [(10, 191)] [1] no_, I_aload 0, I_callv [(10, 192)] [1] no_, I_aload 0, I_iload 1, I_callv [(10, 156)] [0, 1] no_, I_istore 2, I_aload 0, I_callv [(10, 197)] [1] no_, I_iload 2, I_iret]
def M198 : Mi_ := (⟨"SpiritWallModel", "heightIf", "(I)I"⟩, prog_12_method_109_code, 3, (Option.some Jvm.ClassFile.FieldType.int), [], 11)
/- T.leastLimit ()I -/
def K199_0 (E : En_) : List Ii_ := [I_aload 0, I_push (0), I_putf [(10, 0)] (.int), I_aload 0, I_callv [(10, 102)] [1] no_, I_push (0), I_istore 1, I_push (0), I_istore 2, I_goto 1]
def K199_1 (E : En_) : List Ii_ := [I_iload 2, I_aload 0, I_callv [(10, 129)] [1] no_, I_icge 4, I_goto 2]
def K199_2 (E : En_) : List Ii_ := [I_iload 1, I_push (999), I_icgt 3, I_aload 0, I_iload 2, I_iload 1, I_callv [(10, 132)] [0, 0, 1] no_, I_ifne 3, I_iload 1, I_push (1), I_iadd, I_istore 1, I_goto 2]
def K199_3 (E : En_) : List Ii_ := [I_iinc 2 (1), I_goto 1]
def K199_4 (E : En_) : List Ii_ := [I_mask [false, true, false], I_iload 1, I_push (999), I_icle 5, I_push (-1), I_goto 6]
def K199_5 (E : En_) : List Ii_ := [I_mask [false, true, false], I_iload 1, I_goto 6]
def K199_6 (E : En_) : List Ii_ := [I_mask [false, false, false], I_iret]
def M199 : Mi_ := (⟨"SpiritWallModel", "leastLimit", "()I"⟩, prog_12_method_110_code, 3, (Option.some Jvm.ClassFile.FieldType.int), [], 19)
/- T.addSight (IIIII)I -/
def K200_0 (E : En_) : List Ii_ := [I_aload 0, I_aload 0, I_iload 1, I_iload 2, I_callv [(10, 148)] [0, 0, 1] no_, I_callv [(10, 97)] [0, 1] no_, I_ifeq 5, I_aload 0, I_iload 1, I_iload 2, I_iceq 1, I_iload 3, I_i2l, I_pushl (0), I_pushl (1), I_call 145 [2, 2, 2] no_, I_ifeq 1, I_iload 4, I_call 201 [0] no_, I_ifeq 1, I_iload 5, I_i2l, I_pushl (-40), I_pushl (60), I_call 145 [2, 2, 2] no_, I_ifeq 1, I_push (1), I_goto 2]
def K200_1 (E : En_) : List Ii_ := [I_push (0), I_goto 2]
def K200_2 (E : En_) : List Ii_ := [I_push (2), I_callv [(10, 151)] [0, 0, 1] no_, I_ifeq 5, I_aload 0, I_aload 0, I_callv [(10, 112)] [1] no_, I_push (40), I_icge 3, I_push (1), I_goto 4]
def K200_3 (E : En_) : List Ii_ := [I_push (0), I_goto 4]
def K200_4 (E : En_) : List Ii_ := [I_push (3), I_callv [(10, 151)] [0, 0, 1] no_, I_ifne 6, I_goto 5]
def K200_5 (E : En_) : List Ii_ := [I_mask [false, false, false, false, false, false], I_push (0), I_iret]
def K200_6 (E : En_) : List Ii_ := [I_aload 0, I_callv [(10, 202)] [1] no_, I_aload 0, I_aload 0, I_iload 1, I_iload 2, I_iload 3, I_iload 4, I_iload 5, I_callv [(10, 203)] [0, 0, 0, 0, 0, 1] no_, I_callv [(10, 204)] [0, 1] no_, I_iret]
def M200 : Mi_ := (⟨"SpiritWallModel", "addSight", "(IIIII)I"⟩, prog_12_method_113_code, 6, (Option.some Jvm.ClassFile.FieldType.int), [], 4)
/- T.isReading (I)Z -/
def K201_0 (E : En_) : List Ii_ := [I_iload 0, I_i2l, I_pushl (-9999), I_pushl (9999), I_call 145 [2, 2, 2] no_, I_nret .boolean]
def M201 : Mi_ := (⟨"SpiritWallModel", "isReading", "(I)Z"⟩, prog_12_method_112_code, 1, (Option.some Jvm.ClassFile.FieldType.boolean), [], 2)
/- T.starts ()V -/
def K202_0 (E : En_) : List Ii_ := [I_aload 0, I_getf [(10, 1)], I_aload 0, I_getf [(10, 2)], I_call 99 [1, 1] no_, I_vret]
def M202 : Mi_ := (⟨"SpiritWallModel", "starts", "()V"⟩, prog_12_method_8_code, 1, (Option.none : Option Jvm.ClassFile.FieldType), [], 2)
/- T.addsSight (IIIII)I -/
def K203_0 (E : En_) : List Ii_ := [I_aload 0, I_callv [(10, 112)] [1] no_, I_istore 6, I_aload 0, I_iload 6, I_push (0), I_iload 1, I_callv [(10, 187)] [0, 0, 0, 1] no_, I_aload 0, I_iload 6, I_push (1), I_iload 2, I_callv [(10, 187)] [0, 0, 0, 1] no_, I_aload 0, I_iload 6, I_push (2), I_iload 3, I_callv [(10, 187)] [0, 0, 0, 1] no_, I_aload 0, I_iload 6, I_push (3), I_iload 4, I_callv [(10, 187)] [0, 0, 0, 1] no_, I_aload 0, I_iload 6, I_push (4), I_iload 5, I_callv [(10, 187)] [0, 0, 0, 1] no_, I_aload 0, I_iload 6, I_push (5), I_push (0), I_callv [(10, 187)] [0, 0, 0, 1] no_, I_aload 0, I_getf [(10, 1)], I_push (1), I_iload 6, I_push (1), I_iadd, I_iast, I_iload 6, I_iret]
def M203 : Mi_ := (⟨"SpiritWallModel", "addsSight", "(IIIII)I"⟩, prog_12_method_111_code, 7, (Option.some Jvm.ClassFile.FieldType.int), [], 2)
/- T.done (I)I -/
def K204_0 (E : En_) : List Ii_ := [I_aload 0, I_getf [(10, 7)], I_push (10), I_icne 3, I_push (0), I_istore 2, I_goto 1]
def K204_1 (E : En_) : List Ii_ := [I_iload 2, I_push (2772), I_icge 2, I_aload 0, I_getf [(10, 6)], I_iload 2, I_aload 0, I_getf [(10, 6)], I_iload 2, I_push (308), I_iadd, I_iald, I_iast, I_iinc 2 (1), I_goto 1]
def K204_2 (E : En_) : List Ii_ := [I_mask [true, true, false], I_aload 0, I_aload 0, I_getf [(10, 7)], I_push (1), I_isub, I_putf [(10, 7)] (.int), I_goto 3]
def K204_3 (E : En_) : List Ii_ := [I_mask [true, true, false], I_push (0), I_istore 2, I_goto 4]
def K204_4 (E : En_) : List Ii_ := [I_iload 2, I_push (308), I_icge 5, I_aload 0, I_getf [(10, 6)], I_push (308), I_aload 0, I_getf [(10, 7)], I_imul, I_iload 2, I_iadd, I_aload 0, I_getf [(10, 2)], I_iload 2, I_iald, I_iast, I_iinc 2 (1), I_goto 4]
def K204_5 (E : En_) : List Ii_ := [I_mask [true, true, false], I_aload 0, I_aload 0, I_getf [(10, 7)], I_push (1), I_iadd, I_putf [(10, 7)] (.int), I_iload 1, I_iret]
def M204 : Mi_ := (⟨"SpiritWallModel", "done", "(I)I"⟩, prog_12_method_9_code, 3, (Option.some Jvm.ClassFile.FieldType.int), [], 1)
/- T.strike (IZ)Z -/
def K205_0 (E : En_) : List Ii_ := [I_aload 0, I_aload 0, I_iload 1, I_callv [(10, 160)] [0, 1] no_, I_callv [(10, 97)] [0, 1] no_, I_ifne 1, I_push (0), I_nret .boolean]
def K205_1 (E : En_) : List Ii_ := [I_mask [true, true, true, false], I_aload 0, I_callv [(10, 202)] [1] no_, I_aload 0, I_iload 1, I_push (5), I_callv [(10, 114)] [0, 0, 1] no_, I_istore 3, I_aload 0, I_iload 1, I_push (5), I_iload 2, I_ifeq 2, I_push (1), I_goto 3]
def K205_2 (E : En_) : List Ii_ := [I_mask [true, false, false], I_push (0), I_goto 3]
def K205_3 (E : En_) : List Ii_ := [I_mask [true, false, false], I_callv [(10, 187)] [0, 0, 0, 1] no_, I_aload 0, I_iload 3, I_callv [(10, 204)] [0, 1] no_, I_push (1), I_icne 4, I_push (1), I_goto 5]
def K205_4 (E : En_) : List Ii_ := [I_mask [false, false, false, false], I_push (0), I_goto 5]
def K205_5 (E : En_) : List Ii_ := [I_mask [false, false, false, false], I_nret .boolean]
def M205 : Mi_ := (⟨"SpiritWallModel", "strike", "(IZ)Z"⟩, prog_12_method_114_code, 4, (Option.some Jvm.ClassFile.FieldType.boolean), [], 3)
/- T.swap (II)I -/
def K206_0 (E : En_) : List Ii_ := [I_aload 0, I_aload 0, I_iload 1, I_callv [(10, 160)] [0, 1] no_, I_callv [(10, 97)] [0, 1] no_, I_ifeq 1, I_aload 0, I_iload 2, I_call 201 [0] no_, I_push (2), I_callv [(10, 151)] [0, 0, 1] no_, I_ifne 2, I_goto 1]
def K206_1 (E : En_) : List Ii_ := [I_mask [false, false, false], I_push (0), I_iret]
def K206_2 (E : En_) : List Ii_ := [I_aload 0, I_callv [(10, 202)] [1] no_, I_aload 0, I_iload 1, I_push (3), I_iload 2, I_callv [(10, 187)] [0, 0, 0, 1] no_, I_aload 0, I_iload 1, I_push (2), I_push (1), I_aload 0, I_iload 1, I_push (2), I_callv [(10, 114)] [0, 0, 1] no_, I_isub, I_callv [(10, 187)] [0, 0, 0, 1] no_, I_aload 0, I_aload 0, I_iload 1, I_push (2), I_callv [(10, 114)] [0, 0, 1] no_, I_callv [(10, 204)] [0, 1] no_, I_iret]
def M206 : Mi_ := (⟨"SpiritWallModel", "swap", "(II)I"⟩, prog_12_method_115_code, 3, (Option.some Jvm.ClassFile.FieldType.int), [], 3)
/- T.fix (II)Z -/
def K207_0 (E : En_) : List Ii_ := [I_aload 0, I_aload 0, I_iload 1, I_callv [(10, 149)] [0, 1] no_, I_callv [(10, 97)] [0, 1] no_, I_ifeq 1, I_aload 0, I_iload 2, I_i2l, I_pushl (-99999), I_pushl (99999), I_call 145 [2, 2, 2] no_, I_push (2), I_callv [(10, 151)] [0, 0, 1] no_, I_ifne 2, I_goto 1]
def K207_1 (E : En_) : List Ii_ := [I_mask [false, false, false, false], I_push (0), I_nret .boolean]
def K207_2 (E : En_) : List Ii_ := [I_mask [true, true, true, false], I_aload 0, I_callv [(10, 202)] [1] no_, I_aload 0, I_iload 1, I_push (2), I_callv [(10, 111)] [0, 0, 1] no_, I_istore 3, I_aload 0, I_iload 1, I_push (2), I_push (1), I_callv [(10, 193)] [0, 0, 0, 1] no_, I_aload 0, I_iload 1, I_push (3), I_push (1), I_callv [(10, 193)] [0, 0, 0, 1] no_, I_aload 0, I_iload 1, I_push (4), I_iload 2, I_callv [(10, 193)] [0, 0, 0, 1] no_, I_aload 0, I_iload 3, I_callv [(10, 204)] [0, 1] no_, I_push (1), I_icne 3, I_push (1), I_goto 4]
def K207_3 (E : En_) : List Ii_ := [I_mask [false, false, false, false], I_push (0), I_goto 4]
def K207_4 (E : En_) : List Ii_ := [I_mask [false, false, false, false], I_nret .boolean]
def M207 : Mi_ := (⟨"SpiritWallModel", "fix", "(II)Z"⟩, prog_12_method_116_code, 4, (Option.some Jvm.ClassFile.FieldType.boolean), [], 3)
/- T.free (I)I -/
def K208_0 (E : En_) : List Ii_ := [I_aload 0, I_aload 0, I_iload 1, I_callv [(10, 149)] [0, 1] no_, I_callv [(10, 97)] [0, 1] no_, I_ifeq 1, I_aload 0, I_aload 0, I_iload 1, I_callv [(10, 158)] [0, 1] no_, I_push (2), I_callv [(10, 151)] [0, 0, 1] no_, I_ifne 2, I_goto 1]
def K208_1 (E : En_) : List Ii_ := [I_mask [false, false], I_push (0), I_iret]
def K208_2 (E : En_) : List Ii_ := [I_aload 0, I_callv [(10, 202)] [1] no_, I_aload 0, I_iload 1, I_push (2), I_push (0), I_callv [(10, 193)] [0, 0, 0, 1] no_, I_aload 0, I_aload 0, I_callv [(10, 125)] [1] no_, I_callv [(10, 204)] [0, 1] no_, I_iret]
def M208 : Mi_ := (⟨"SpiritWallModel", "free", "(I)I"⟩, prog_12_method_117_code, 2, (Option.some Jvm.ClassFile.FieldType.int), [], 3)
/- T.level ()I -/
def K209_0 (E : En_) : List Ii_ := [I_aload 0, I_push (0), I_putf [(10, 0)] (.int), I_aload 0, I_callv [(10, 202)] [1] no_, I_aload 0, I_callv [(10, 192)] [1] no_, I_aload 0, I_aload 0, I_callv [(10, 141)] [1] no_, I_callv [(10, 204)] [0, 1] no_, I_iret]
def M209 : Mi_ := (⟨"SpiritWallModel", "level", "()I"⟩, prog_12_method_118_code, 1, (Option.some Jvm.ClassFile.FieldType.int), [], 11)
/- T.relax (I)I -/
def K210_0 (E : En_) : List Ii_ := [I_aload 0, I_iload 1, I_i2l, I_pushl (1), I_pushl (50), I_call 145 [2, 2, 2] no_, I_callv [(10, 97)] [0, 1] no_, I_ifne 1, I_push (0), I_iret]
def K210_1 (E : En_) : List Ii_ := [I_aload 0, I_callv [(10, 202)] [1] no_, I_aload 0, I_aload 0, I_iload 1, I_callv [(10, 195)] [0, 1] no_, I_callv [(10, 204)] [0, 1] no_, I_iret]
def M210 : Mi_ := (⟨"SpiritWallModel", "relax", "(I)I"⟩, prog_12_method_119_code, 2, (Option.some Jvm.ClassFile.FieldType.int), [], 11)
/- T.tellError (I)I -/
def K211_0 (E : En_) : List Ii_ := [I_aload 0, I_iload 1, I_i2l, I_pushl (-999), I_pushl (999), I_call 145 [2, 2, 2] no_, I_callv [(10, 97)] [0, 1] no_, I_ifne 1, I_push (0), I_iret]
def K211_1 (E : En_) : List Ii_ := [I_mask [true, true, false], I_aload 0, I_callv [(10, 202)] [1] no_, I_aload 0, I_callv [(10, 104)] [1] no_, I_istore 2, I_aload 0, I_getf [(10, 1)], I_push (6), I_push (1), I_iast, I_aload 0, I_getf [(10, 1)], I_push (7), I_iload 1, I_iast, I_aload 0, I_iload 2, I_callv [(10, 204)] [0, 1] no_, I_iret]
def M211 : Mi_ := (⟨"SpiritWallModel", "tellError", "(I)I"⟩, prog_12_method_120_code, 3, (Option.some Jvm.ClassFile.FieldType.int), [], 8)
/- T.findError ()I -/
def K212_0 (E : En_) : List Ii_ := [I_aload 0, I_push (0), I_putf [(10, 0)] (.int), I_aload 0, I_callv [(10, 202)] [1] no_, I_aload 0, I_getf [(10, 1)], I_push (6), I_push (0), I_iast, I_aload 0, I_aload 0, I_callv [(10, 105)] [1] no_, I_callv [(10, 204)] [0, 1] no_, I_iret]
def M212 : Mi_ := (⟨"SpiritWallModel", "findError", "()I"⟩, prog_12_method_121_code, 1, (Option.some Jvm.ClassFile.FieldType.int), [], 7)
/- T.set (II)I -/
def K213_0 (E : En_) : List Ii_ := [I_aload 0, I_iload 1, I_iload 2, I_call 214 [0, 0] no_, I_callv [(10, 97)] [0, 1] no_, I_ifne 1, I_push (0), I_iret]
def K213_1 (E : En_) : List Ii_ := [I_mask [true, true, true, false], I_aload 0, I_callv [(10, 202)] [1] no_, I_aload 0, I_getf [(10, 1)], I_push (2), I_iload 1, I_iadd, I_iald, I_istore 3, I_aload 0, I_getf [(10, 1)], I_push (2), I_iload 1, I_iadd, I_iload 2, I_iast, I_aload 0, I_iload 3, I_callv [(10, 204)] [0, 1] no_, I_iret]
def M213 : Mi_ := (⟨"SpiritWallModel", "set", "(II)I"⟩, prog_12_method_123_code, 4, (Option.some Jvm.ClassFile.FieldType.int), [], 3)
/- T.isSetting (II)Z -/
def K214_0 (E : En_) : List Ii_ := [I_iload 0, I_tsw 0 [1, 2, 3, 4] 5]
def K214_1 (E : En_) : List Ii_ := [I_mask [false], I_iload 1, I_i2l, I_pushl (1), I_pushl (9999), I_call 145 [2, 2, 2] no_, I_nret .boolean]
def K214_2 (E : En_) : List Ii_ := [I_mask [false], I_iload 1, I_i2l, I_pushl (0), I_pushl (99), I_call 145 [2, 2, 2] no_, I_nret .boolean]
def K214_3 (E : En_) : List Ii_ := [I_mask [false], I_iload 1, I_i2l, I_pushl (-99), I_pushl (99), I_call 145 [2, 2, 2] no_, I_nret .boolean]
def K214_4 (E : En_) : List Ii_ := [I_mask [false], I_iload 1, I_i2l, I_pushl (0), I_pushl (999), I_call 145 [2, 2, 2] no_, I_nret .boolean]
def K214_5 (E : En_) : List Ii_ := [I_mask [false, false], I_push (0), I_nret .boolean]
def M214 : Mi_ := (⟨"SpiritWallModel", "isSetting", "(II)Z"⟩, prog_12_method_122_code, 2, (Option.some Jvm.ClassFile.FieldType.boolean), [], 2)
/- T.feed (IIIII)I -/
def K215_0 (E : En_) : List Ii_ := [I_aload 0, I_push (0), I_putf [(10, 0)] (.int), I_aload 0, I_getf [(10, 20)], I_push (20), I_iadd, I_push (900), I_icle 1, I_push (-1), I_iret]
def K215_1 (E : En_) : List Ii_ := [I_mask [true, true, true, true, true, true, false, false], I_push (0), I_istore 6, I_goto 2]
def K215_2 (E : En_) : List Ii_ := [I_mask [true, true, true, true, true, true, true, false], I_iload 6, I_push (20), I_icge 8, I_iload 6, I_push (4), I_icge 3, I_iload 1, I_goto 7]
def K215_3 (E : En_) : List Ii_ := [I_mask [true, true, true, true, true, true, true, false], I_iload 6, I_push (8), I_icge 4, I_iload 2, I_goto 7]
def K215_4 (E : En_) : List Ii_ := [I_mask [true, true, true, true, true, true, true, false], I_iload 6, I_push (12), I_icge 5, I_iload 3, I_goto 7]
def K215_5 (E : En_) : List Ii_ := [I_mask [true, true, true, true, true, true, true, false], I_iload 6, I_push (16), I_icge 6, I_iload 4, I_goto 7]
def K215_6 (E : En_) : List Ii_ := [I_mask [true, true, true, true, true, true, true, false], I_iload 5, I_goto 7]
def K215_7 (E : En_) : List Ii_ := [I_mask [true, true, true, true, true, true, true, false], I_istore 7, I_aload 0, I_getf [(10, 19)], I_aload 0, I_getf [(10, 20)], I_iload 7, I_push (24), I_push (8), I_iload 6, I_push (4), I_irem, I_imul, I_isub, I_ishr, I_i2b, I_bast, I_aload 0, I_aload 0, I_getf [(10, 20)], I_push (1), I_iadd, I_putf [(10, 20)] (.int), I_iinc 6 (1), I_goto 2]
def K215_8 (E : En_) : List Ii_ := [I_mask [true, false, false, false, false, false, false, false], I_aload 0, I_getf [(10, 20)], I_iret]
def M215 : Mi_ := (⟨"SpiritWallModel", "feed", "(IIIII)I"⟩, prog_12_method_124_code, 8, (Option.some Jvm.ClassFile.FieldType.int), [], 1)
/- T.truncate (I)Z -/
def K216_0 (E : En_) : List Ii_ := [I_aload 0, I_push (0), I_putf [(10, 0)] (.int), I_iload 1, I_i2l, I_pushl (0), I_aload 0, I_getf [(10, 20)], I_i2l, I_call 145 [2, 2, 2] no_, I_ifne 1, I_push (0), I_nret .boolean]
def K216_1 (E : En_) : List Ii_ := [I_aload 0, I_iload 1, I_putf [(10, 20)] (.int), I_push (1), I_nret .boolean]
def M216 : Mi_ := (⟨"SpiritWallModel", "truncate", "(I)Z"⟩, prog_12_method_125_code, 2, (Option.some Jvm.ClassFile.FieldType.boolean), [], 2)
/- T.find ()I -/
def K217_0 (E : En_) : List Ii_ := [I_aload 0, I_push (0), I_putf [(10, 0)] (.int), I_aload 0, I_push (0), I_aload 0, I_getf [(10, 20)], I_callv [(10, 218)] [0, 0, 1] no_, I_istore 1, I_aload 0, I_push (0), I_putf [(10, 20)] (.int), I_iload 1, I_push (-1), I_icne 1, I_push (-1), I_goto 2]
def K217_1 (E : En_) : List Ii_ := [I_aload 0, I_iload 1, I_callv [(10, 219)] [0, 1] no_, I_goto 2]
def K217_2 (E : En_) : List Ii_ := [I_mask [false, false], I_iret]
def M217 : Mi_ := (⟨"SpiritWallModel", "find", "()I"⟩, prog_12_method_132_code, 2, (Option.some Jvm.ClassFile.FieldType.int), [], 3)
/- T.nameAt (II)I -/
def K218_0 (E : En_) : List Ii_ := [I_iload 2, I_i2l, I_pushl (1), I_pushl (6), I_call 145 [2, 2, 2] no_, I_ifne 1, I_push (-1), I_iret]
def K218_1 (E : En_) : List Ii_ := [I_mask [true, true, true, false, false, false], I_push (0), I_istore 3, I_push (0), I_istore 4, I_goto 2]
def K218_2 (E : En_) : List Ii_ := [I_mask [true, true, true, true, true, false], I_iload 4, I_iload 2, I_icge 4, I_aload 0, I_getf [(10, 19)], I_iload 1, I_iload 4, I_iadd, I_bald, I_istore 5, I_iload 5, I_i2l, I_pushl (97), I_pushl (122), I_call 145 [2, 2, 2] no_, I_ifne 3, I_push (-1), I_iret]
def K218_3 (E : En_) : List Ii_ := [I_push (27), I_iload 3, I_imul, I_iload 5, I_iadd, I_push (97), I_isub, I_push (1), I_iadd, I_istore 3, I_iinc 4 (1), I_goto 2]
def K218_4 (E : En_) : List Ii_ := [I_mask [false, false, false, true, false, false], I_iload 3, I_iret]
def M218 : Mi_ := (⟨"SpiritWallModel", "nameAt", "(II)I"⟩, prog_12_method_130_code, 6, (Option.some Jvm.ClassFile.FieldType.int), [], 2)
/- T.named (I)I -/
def K219_0 (E : En_) : List Ii_ := [I_push (0), I_istore 2, I_goto 1]
def K219_1 (E : En_) : List Ii_ := [I_iload 2, I_aload 0, I_callv [(10, 106)] [1] no_, I_icge 3, I_aload 0, I_iload 2, I_push (0), I_callv [(10, 111)] [0, 0, 1] no_, I_iload 1, I_icne 2, I_iload 2, I_iret]
def K219_2 (E : En_) : List Ii_ := [I_iinc 2 (1), I_goto 1]
def K219_3 (E : En_) : List Ii_ := [I_mask [false, false, false], I_push (-1), I_iret]
def M219 : Mi_ := (⟨"SpiritWallModel", "named", "(I)I"⟩, prog_12_method_131_code, 3, (Option.some Jvm.ClassFile.FieldType.int), [], 2)
/- T.parse ()I -/
def K220_0 (E : En_) : List Ii_ := [I_aload 0, I_push (0), I_putf [(10, 0)] (.int), I_aload 0, I_push (0), I_putf [(10, 27)] (.int), I_aload 0, I_push (-1), I_putf [(10, 28)] (.int), I_aload 0, I_getf [(10, 1)], I_aload 0, I_getf [(10, 4)], I_call 99 [1, 1] no_, I_aload 0, I_callv [(10, 94)] [1] no_, I_aload 0, I_push (0), I_putf [(10, 29)] (.int), I_aload 0, I_aload 0, I_getf [(10, 20)], I_putf [(10, 21)] (.int), I_aload 0, I_push (0), I_putf [(10, 20)] (.int), I_aload 0, I_push (0), I_putf [(10, 22)] (.int), I_aload 0, I_callv [(10, 221)] [1] no_, I_goto 1]
def K220_1 (E : En_) : List Ii_ := [I_aload 0, I_callv [(10, 225)] [1] no_, I_ifeq 2, I_aload 0, I_getf [(10, 24)], I_ifeq 2, I_aload 0, I_callv [(10, 226)] [1] no_, I_goto 1]
def K220_2 (E : En_) : List Ii_ := [I_aload 0, I_callv [(10, 225)] [1] no_, I_ifne 3, I_aload 0, I_getf [(10, 4)], I_aload 0, I_getf [(10, 1)], I_call 99 [1, 1] no_, I_push (-1), I_iret]
def K220_3 (E : En_) : List Ii_ := [I_aload 0, I_push (0), I_putf [(10, 7)] (.int), I_aload 0, I_push (0), I_putf [(10, 8)] (.boolean), I_aload 0, I_callv [(10, 106)] [1] no_, I_iret]
def M220 : Mi_ := (⟨"SpiritWallModel", "parse", "()I"⟩, prog_12_method_147_code, 1, (Option.some Jvm.ClassFile.FieldType.int), [], 12)
/- T.next ()V -/
def K221_0 (E : En_) : List Ii_ := [I_aload 0, I_aload 0, I_getf [(10, 22)], I_callv [(10, 222)] [0, 1] no_, I_push (32), I_iceq 1, I_aload 0, I_aload 0, I_getf [(10, 22)], I_callv [(10, 222)] [0, 1] no_, I_push (10), I_icne 2, I_goto 1]
def K221_1 (E : En_) : List Ii_ := [I_mask [true, false], I_aload 0, I_aload 0, I_getf [(10, 22)], I_push (1), I_iadd, I_putf [(10, 22)] (.int), I_goto 0]
def K221_2 (E : En_) : List Ii_ := [I_mask [true, false], I_aload 0, I_aload 0, I_getf [(10, 22)], I_putf [(10, 23)] (.int), I_aload 0, I_aload 0, I_getf [(10, 22)], I_callv [(10, 222)] [0, 1] no_, I_istore 1, I_iload 1, I_push (-1), I_icne 3, I_aload 0, I_push (0), I_putf [(10, 24)] (.int), I_goto 16]
def K221_3 (E : En_) : List Ii_ := [I_aload 0, I_aload 0, I_getf [(10, 22)], I_callv [(10, 223)] [0, 1] no_, I_ifeq 6, I_goto 4]
def K221_4 (E : En_) : List Ii_ := [I_mask [true, false], I_aload 0, I_aload 0, I_getf [(10, 22)], I_callv [(10, 223)] [0, 1] no_, I_ifeq 5, I_aload 0, I_aload 0, I_getf [(10, 22)], I_push (1), I_iadd, I_putf [(10, 22)] (.int), I_goto 4]
def K221_5 (E : En_) : List Ii_ := [I_mask [true, false], I_aload 0, I_push (1), I_putf [(10, 24)] (.int), I_aload 0, I_aload 0, I_callv [(10, 224)] [1] no_, I_putf [(10, 25)] (.int), I_goto 16]
def K221_6 (E : En_) : List Ii_ := [I_iload 1, I_i2l, I_pushl (48), I_pushl (57), I_call 145 [2, 2, 2] no_, I_ifeq 12, I_aload 0, I_push (0), I_putf [(10, 26)] (.int), I_goto 7]
def K221_7 (E : En_) : List Ii_ := [I_mask [true, false], I_aload 0, I_aload 0, I_getf [(10, 22)], I_callv [(10, 222)] [0, 1] no_, I_i2l, I_pushl (48), I_pushl (57), I_call 145 [2, 2, 2] no_, I_ifeq 9, I_aload 0, I_getf [(10, 22)], I_aload 0, I_getf [(10, 23)], I_isub, I_push (5), I_icge 8, I_aload 0, I_push (10), I_aload 0, I_getf [(10, 26)], I_imul, I_aload 0, I_aload 0, I_getf [(10, 22)], I_callv [(10, 222)] [0, 1] no_, I_iadd, I_push (48), I_isub, I_putf [(10, 26)] (.int), I_goto 8]
def K221_8 (E : En_) : List Ii_ := [I_mask [true, false], I_aload 0, I_dup, I_getf [(10, 22)], I_push (1), I_iadd, I_putf [(10, 22)] (.int), I_goto 7]
def K221_9 (E : En_) : List Ii_ := [I_mask [true, false], I_aload 0, I_aload 0, I_getf [(10, 22)], I_aload 0, I_getf [(10, 23)], I_isub, I_push (5), I_icle 10, I_push (5), I_goto 11]
def K221_10 (E : En_) : List Ii_ := [I_mask [false, false], I_push (2), I_goto 11]
def K221_11 (E : En_) : List Ii_ := [I_mask [false, false], I_putf [(10, 24)] (.int), I_goto 16]
def K221_12 (E : En_) : List Ii_ := [I_aload 0, I_aload 0, I_getf [(10, 22)], I_push (1), I_iadd, I_putf [(10, 22)] (.int), I_aload 0, I_iload 1, I_push (59), I_icne 13, I_push (3), I_goto 15]
def K221_13 (E : En_) : List Ii_ := [I_mask [false], I_iload 1, I_push (45), I_icne 14, I_push (4), I_goto 15]
def K221_14 (E : En_) : List Ii_ := [I_mask [false, false], I_push (5), I_goto 15]
def K221_15 (E : En_) : List Ii_ := [I_mask [false, false], I_putf [(10, 24)] (.int), I_goto 16]
def K221_16 (E : En_) : List Ii_ := [I_mask [false, false], I_vret]
def M221 : Mi_ := (⟨"SpiritWallModel", "next", "()V"⟩, prog_12_method_128_code, 2, (Option.none : Option Jvm.ClassFile.FieldType), [], 6)
/- T.here (I)I -/
def K222_0 (E : En_) : List Ii_ := [I_iload 1, I_aload 0, I_getf [(10, 21)], I_icge 1, I_aload 0, I_getf [(10, 19)], I_iload 1, I_bald, I_push (255), I_iand, I_goto 2]
def K222_1 (E : En_) : List Ii_ := [I_mask [false, false], I_push (-1), I_goto 2]
def K222_2 (E : En_) : List Ii_ := [I_mask [false, false], I_iret]
def M222 : Mi_ := (⟨"SpiritWallModel", "here", "(I)I"⟩, prog_12_method_126_code, 2, (Option.some Jvm.ClassFile.FieldType.int), [], 1)
/- T.isLetter (I)Z -/
def K223_0 (E : En_) : List Ii_ := [I_aload 0, I_iload 1, I_callv [(10, 222)] [0, 1] no_, I_i2l, I_pushl (97), I_pushl (122), I_call 145 [2, 2, 2] no_, I_nret .boolean]
def M223 : Mi_ := (⟨"SpiritWallModel", "isLetter", "(I)Z"⟩, prog_12_method_127_code, 2, (Option.some Jvm.ClassFile.FieldType.boolean), [], 2)
/- T.wordHere ()I -/
def K224_0 (E : En_) : List Ii_ := [I_push (0), I_istore 1, I_push (0), I_istore 2, I_goto 1]
def K224_1 (E : En_) : List Ii_ := [I_mask [true, true, true, false], I_iload 2, I_val (.ref (E.2.2.2.2.1 17)), I_callv [(16, 85)] [1] no_, I_icge 6, I_push (0), I_istore 3, I_goto 2]
def K224_2 (E : En_) : List Ii_ := [I_val (.ref (E.2.2.2.2.1 17)), I_iload 2, I_iload 3, I_iadd, I_callv [(16, 89)] [0, 1] no_, I_push (32), I_iceq 3, I_aload 0, I_getf [(10, 23)], I_iload 3, I_iadd, I_aload 0, I_getf [(10, 22)], I_icge 3, I_aload 0, I_getf [(10, 19)], I_aload 0, I_getf [(10, 23)], I_iload 3, I_iadd, I_bald, I_val (.ref (E.2.2.2.2.1 17)), I_iload 2, I_iload 3, I_iadd, I_callv [(16, 89)] [0, 1] no_, I_icne 3, I_iload 3, I_push (1), I_iadd, I_istore 3, I_goto 2]
def K224_3 (E : En_) : List Ii_ := [I_val (.ref (E.2.2.2.2.1 17)), I_iload 2, I_iload 3, I_iadd, I_callv [(16, 89)] [0, 1] no_, I_push (32), I_icne 4, I_aload 0, I_getf [(10, 23)], I_iload 3, I_iadd, I_aload 0, I_getf [(10, 22)], I_icne 4, I_iload 1, I_iret]
def K224_4 (E : En_) : List Ii_ := [I_mask [true, true, true, false], I_val (.ref (E.2.2.2.2.1 17)), I_iload 2, I_callv [(16, 89)] [0, 1] no_, I_push (32), I_iceq 5, I_iload 2, I_push (1), I_iadd, I_istore 2, I_goto 4]
def K224_5 (E : En_) : List Ii_ := [I_mask [true, true, true, false], I_iload 2, I_push (1), I_iadd, I_istore 2, I_iload 1, I_push (1), I_iadd, I_istore 1, I_goto 1]
def K224_6 (E : En_) : List Ii_ := [I_mask [false, false, false, false], I_push (-1), I_iret]
def M224 : Mi_ := (⟨"SpiritWallModel", "wordHere", "()I"⟩, prog_12_method_129_code, 4, (Option.some Jvm.ClassFile.FieldType.int), [], 5)
/- T.fine ()Z -/
def K225_0 (E : En_) : List Ii_ := [I_aload 0, I_getf [(10, 27)], I_ifne 1, I_push (1), I_goto 2]
def K225_1 (E : En_) : List Ii_ := [I_mask [false], I_push (0), I_goto 2]
def K225_2 (E : En_) : List Ii_ := [I_mask [false], I_nret .boolean]
def M225 : Mi_ := (⟨"SpiritWallModel", "fine", "()Z"⟩, prog_12_method_133_code, 1, (Option.some Jvm.ClassFile.FieldType.boolean), [], 1)
/- T.statement ()V -/
def K226_0 (E : En_) : List Ii_ := [I_aload 0, I_getf [(10, 24)], I_push (1), I_icne 1, I_aload 0, I_getf [(10, 25)], I_i2l, I_pushl (0), I_pushl (4), I_call 145 [2, 2, 2] no_, I_ifeq 1, I_aload 0, I_callv [(10, 227)] [1] no_, I_goto 4]
def K226_1 (E : En_) : List Ii_ := [I_aload 0, I_push (5), I_callv [(10, 233)] [0, 1] no_, I_ifeq 2, I_aload 0, I_callv [(10, 234)] [1] no_, I_goto 4]
def K226_2 (E : En_) : List Ii_ := [I_aload 0, I_push (6), I_callv [(10, 233)] [0, 1] no_, I_ifeq 3, I_aload 0, I_callv [(10, 237)] [1] no_, I_goto 4]
def K226_3 (E : En_) : List Ii_ := [I_aload 0, I_push (0), I_push (1), I_callv [(10, 228)] [0, 0, 1] no_, I_goto 4]
def K226_4 (E : En_) : List Ii_ := [I_aload 0, I_aload 0, I_getf [(10, 24)], I_push (3), I_icne 5, I_push (1), I_goto 6]
def K226_5 (E : En_) : List Ii_ := [I_push (0), I_goto 6]
def K226_6 (E : En_) : List Ii_ := [I_push (1), I_callv [(10, 228)] [0, 0, 1] no_, I_aload 0, I_callv [(10, 229)] [1] no_, I_vret]
def M226 : Mi_ := (⟨"SpiritWallModel", "statement", "()V"⟩, prog_12_method_146_code, 1, (Option.none : Option Jvm.ClassFile.FieldType), [], 11)
/- T.readsOnce ()V -/
def K227_0 (E : En_) : List Ii_ := [I_aload 0, I_getf [(10, 25)], I_istore 1, I_aload 0, I_aload 0, I_getf [(10, 29)], I_iload 1, I_ishr, I_push (1), I_iand, I_ifne 1, I_push (1), I_goto 2]
def K227_1 (E : En_) : List Ii_ := [I_mask [true, true, false], I_push (0), I_goto 2]
def K227_2 (E : En_) : List Ii_ := [I_mask [true, true, false], I_push (3), I_callv [(10, 228)] [0, 0, 1] no_, I_aload 0, I_aload 0, I_getf [(10, 29)], I_push (1), I_iload 1, I_ishl, I_ior, I_putf [(10, 29)] (.int), I_aload 0, I_callv [(10, 229)] [1] no_, I_iload 1, I_push (4), I_icne 3, I_aload 0, I_push (-999), I_push (999), I_callv [(10, 230)] [0, 0, 1] no_, I_goto 10]
def K227_3 (E : En_) : List Ii_ := [I_mask [true, true, false], I_iload 1, I_push (2), I_icne 4, I_aload 0, I_push (-99), I_push (99), I_callv [(10, 230)] [0, 0, 1] no_, I_goto 10]
def K227_4 (E : En_) : List Ii_ := [I_mask [true, true, false], I_aload 0, I_iload 1, I_ifne 5, I_push (1), I_goto 6]
def K227_5 (E : En_) : List Ii_ := [I_mask [true, true, false], I_push (0), I_goto 6]
def K227_6 (E : En_) : List Ii_ := [I_mask [true, true, false], I_iload 1, I_ifne 7, I_push (9999), I_goto 9]
def K227_7 (E : En_) : List Ii_ := [I_mask [true, true, false], I_iload 1, I_push (1), I_icne 8, I_push (99), I_goto 9]
def K227_8 (E : En_) : List Ii_ := [I_mask [true, true, false], I_push (999), I_goto 9]
def K227_9 (E : En_) : List Ii_ := [I_mask [true, true, false], I_callv [(10, 231)] [0, 0, 1] no_, I_goto 10]
def K227_10 (E : En_) : List Ii_ := [I_mask [true, true, false], I_istore 2, I_aload 0, I_callv [(10, 225)] [1] no_, I_ifne 11, I_vret]
def K227_11 (E : En_) : List Ii_ := [I_iload 1, I_push (4), I_icne 12, I_aload 0, I_getf [(10, 1)], I_push (6), I_push (1), I_iast, I_aload 0, I_getf [(10, 1)], I_push (7), I_iload 2, I_iast, I_goto 13]
def K227_12 (E : En_) : List Ii_ := [I_aload 0, I_getf [(10, 1)], I_push (2), I_iload 1, I_iadd, I_iload 2, I_iast, I_goto 13]
def K227_13 (E : En_) : List Ii_ := [I_mask [false, false, false], I_vret]
def M227 : Mi_ := (⟨"SpiritWallModel", "readsOnce", "()V"⟩, prog_12_method_145_code, 3, (Option.none : Option Jvm.ClassFile.FieldType), [], 10)
/- T.needs (ZI)V -/
def K228_0 (E : En_) : List Ii_ := [I_aload 0, I_getf [(10, 27)], I_ifne 1, I_iload 1, I_ifeq 2, I_goto 1]
def K228_1 (E : En_) : List Ii_ := [I_mask [false, false, false], I_vret]
def K228_2 (E : En_) : List Ii_ := [I_mask [true, false], I_aload 0, I_iload 2, I_putf [(10, 27)] (.int), I_aload 0, I_aload 0, I_getf [(10, 23)], I_putf [(10, 28)] (.int), I_vret]
def M228 : Mi_ := (⟨"SpiritWallModel", "needs", "(ZI)V"⟩, prog_12_method_134_code, 3, (Option.none : Option Jvm.ClassFile.FieldType), [], 1)
/- T.goOn ()V -/
def K229_0 (E : En_) : List Ii_ := [I_aload 0, I_callv [(10, 225)] [1] no_, I_ifeq 1, I_aload 0, I_callv [(10, 221)] [1] no_, I_goto 1]
def K229_1 (E : En_) : List Ii_ := [I_mask [false], I_vret]
def M229 : Mi_ := (⟨"SpiritWallModel", "goOn", "()V"⟩, prog_12_method_135_code, 1, (Option.none : Option Jvm.ClassFile.FieldType), [], 7)
/- T.signed (II)I -/
def K230_0 (E : En_) : List Ii_ := [I_aload 0, I_callv [(10, 225)] [1] no_, I_ifeq 1, I_aload 0, I_getf [(10, 24)], I_push (4), I_icne 1, I_push (1), I_goto 2]
def K230_1 (E : En_) : List Ii_ := [I_mask [true, true, true, false, false], I_push (0), I_goto 2]
def K230_2 (E : En_) : List Ii_ := [I_mask [true, true, true, false, false], I_istore 3, I_iload 3, I_ifeq 3, I_aload 0, I_callv [(10, 229)] [1] no_, I_goto 3]
def K230_3 (E : En_) : List Ii_ := [I_mask [true, true, true, true, false], I_aload 0, I_iload 3, I_ifeq 4, I_push (0), I_goto 5]
def K230_4 (E : En_) : List Ii_ := [I_mask [false, true, true, true, false], I_push (0), I_iload 1, I_max, I_goto 5]
def K230_5 (E : En_) : List Ii_ := [I_mask [false, true, true, true, false], I_iload 3, I_ifeq 6, I_iload 1, I_ineg, I_goto 7]
def K230_6 (E : En_) : List Ii_ := [I_mask [false, false, true, true, false], I_iload 2, I_goto 7]
def K230_7 (E : En_) : List Ii_ := [I_mask [false, false, false, true, false], I_callv [(10, 231)] [0, 0, 1] no_, I_istore 4, I_iload 3, I_ifeq 8, I_iload 4, I_ineg, I_goto 9]
def K230_8 (E : En_) : List Ii_ := [I_mask [false, false, false, false], I_iload 4, I_goto 9]
def K230_9 (E : En_) : List Ii_ := [I_mask [false, false, false, false, false], I_iret]
def M230 : Mi_ := (⟨"SpiritWallModel", "signed", "(II)I"⟩, prog_12_method_139_code, 5, (Option.some Jvm.ClassFile.FieldType.int), [], 9)
/- T.number (II)I -/
def K231_0 (E : En_) : List Ii_ := [I_aload 0, I_iload 1, I_iload 2, I_callv [(10, 232)] [0, 0, 1] no_, I_istore 3, I_aload 0, I_callv [(10, 229)] [1] no_, I_iload 3, I_iret]
def M231 : Mi_ := (⟨"SpiritWallModel", "number", "(II)I"⟩, prog_12_method_138_code, 4, (Option.some Jvm.ClassFile.FieldType.int), [], 8)
/- T.numberHere (II)I -/
def K232_0 (E : En_) : List Ii_ := [I_aload 0, I_aload 0, I_getf [(10, 24)], I_push (2), I_icne 1, I_push (1), I_goto 2]
def K232_1 (E : En_) : List Ii_ := [I_push (0), I_goto 2]
def K232_2 (E : En_) : List Ii_ := [I_push (1), I_callv [(10, 228)] [0, 0, 1] no_, I_aload 0, I_callv [(10, 225)] [1] no_, I_ifeq 3, I_aload 0, I_aload 0, I_getf [(10, 26)], I_i2l, I_iload 1, I_i2l, I_iload 2, I_i2l, I_call 145 [2, 2, 2] no_, I_push (2), I_callv [(10, 228)] [0, 0, 1] no_, I_goto 3]
def K232_3 (E : En_) : List Ii_ := [I_mask [true, false, false], I_aload 0, I_getf [(10, 26)], I_iret]
def M232 : Mi_ := (⟨"SpiritWallModel", "numberHere", "(II)I"⟩, prog_12_method_137_code, 3, (Option.some Jvm.ClassFile.FieldType.int), [], 2)
/- T.isWord (I)Z -/
def K233_0 (E : En_) : List Ii_ := [I_aload 0, I_callv [(10, 225)] [1] no_, I_ifeq 1, I_aload 0, I_getf [(10, 24)], I_push (1), I_icne 1, I_aload 0, I_getf [(10, 25)], I_iload 1, I_icne 1, I_push (1), I_goto 2]
def K233_1 (E : En_) : List Ii_ := [I_mask [false, false], I_push (0), I_goto 2]
def K233_2 (E : En_) : List Ii_ := [I_mask [false, false], I_nret .boolean]
def M233 : Mi_ := (⟨"SpiritWallModel", "isWord", "(I)Z"⟩, prog_12_method_136_code, 2, (Option.some Jvm.ClassFile.FieldType.boolean), [], 2)
/- T.readsMark ()V -/
def K234_0 (E : En_) : List Ii_ := [I_aload 0, I_aload 0, I_callv [(10, 106)] [1] no_, I_push (12), I_icge 1, I_push (1), I_goto 2]
def K234_1 (E : En_) : List Ii_ := [I_mask [true, false, false, false, false, false], I_push (0), I_goto 2]
def K234_2 (E : En_) : List Ii_ := [I_mask [true, false, false, false, false, false], I_push (5), I_callv [(10, 228)] [0, 0, 1] no_, I_aload 0, I_callv [(10, 229)] [1] no_, I_aload 0, I_callv [(10, 235)] [1] no_, I_istore 1, I_aload 0, I_callv [(10, 225)] [1] no_, I_ifeq 5, I_aload 0, I_aload 0, I_iload 1, I_callv [(10, 219)] [0, 1] no_, I_push (-1), I_icne 3, I_push (1), I_goto 4]
def K234_3 (E : En_) : List Ii_ := [I_mask [true, true, false, false, false, false], I_push (0), I_goto 4]
def K234_4 (E : En_) : List Ii_ := [I_mask [true, true, false, false, false, false], I_push (3), I_callv [(10, 228)] [0, 0, 1] no_, I_goto 5]
def K234_5 (E : En_) : List Ii_ := [I_mask [true, true, false, false, false, false], I_aload 0, I_callv [(10, 229)] [1] no_, I_aload 0, I_push (0), I_push (99999), I_callv [(10, 232)] [0, 0, 1] no_, I_istore 2, I_aload 0, I_callv [(10, 225)] [1] no_, I_ifeq 8, I_aload 0, I_aload 0, I_iload 2, I_callv [(10, 236)] [0, 1] no_, I_ifne 6, I_push (1), I_goto 7]
def K234_6 (E : En_) : List Ii_ := [I_mask [true, true, true, false, false, false], I_push (0), I_goto 7]
def K234_7 (E : En_) : List Ii_ := [I_mask [true, true, true, false, false, false], I_push (3), I_callv [(10, 228)] [0, 0, 1] no_, I_goto 8]
def K234_8 (E : En_) : List Ii_ := [I_mask [true, true, true, false, false, false], I_aload 0, I_callv [(10, 229)] [1] no_, I_aload 0, I_push (7), I_callv [(10, 233)] [0, 1] no_, I_istore 3, I_iload 3, I_ifeq 9, I_aload 0, I_callv [(10, 229)] [1] no_, I_goto 9]
def K234_9 (E : En_) : List Ii_ := [I_mask [true, true, true, true, false, false], I_iload 3, I_ifeq 10, I_aload 0, I_push (-99999), I_push (99999), I_callv [(10, 230)] [0, 0, 1] no_, I_goto 11]
def K234_10 (E : En_) : List Ii_ := [I_mask [true, true, true, true, false, false], I_push (0), I_goto 11]
def K234_11 (E : En_) : List Ii_ := [I_mask [true, true, true, true, false, false], I_istore 4, I_aload 0, I_callv [(10, 225)] [1] no_, I_ifne 12, I_vret]
def K234_12 (E : En_) : List Ii_ := [I_mask [true, true, true, true, true, false], I_aload 0, I_callv [(10, 106)] [1] no_, I_istore 5, I_aload 0, I_iload 5, I_push (0), I_iload 1, I_callv [(10, 193)] [0, 0, 0, 1] no_, I_aload 0, I_iload 5, I_push (1), I_iload 2, I_callv [(10, 193)] [0, 0, 0, 1] no_, I_aload 0, I_iload 5, I_push (2), I_iload 3, I_ifeq 13, I_push (1), I_goto 14]
def K234_13 (E : En_) : List Ii_ := [I_mask [true, false, false], I_push (0), I_goto 14]
def K234_14 (E : En_) : List Ii_ := [I_mask [true, false, false], I_callv [(10, 193)] [0, 0, 0, 1] no_, I_aload 0, I_iload 5, I_push (3), I_iload 3, I_ifeq 15, I_push (1), I_goto 16]
def K234_15 (E : En_) : List Ii_ := [I_mask [true, false, false, false], I_push (0), I_goto 16]
def K234_16 (E : En_) : List Ii_ := [I_mask [true, false, false, false], I_callv [(10, 193)] [0, 0, 0, 1] no_, I_aload 0, I_iload 5, I_push (4), I_iload 4, I_callv [(10, 193)] [0, 0, 0, 1] no_, I_aload 0, I_getf [(10, 1)], I_push (0), I_iload 5, I_push (1), I_iadd, I_iast, I_vret]
def M234 : Mi_ := (⟨"SpiritWallModel", "readsMark", "()V"⟩, prog_12_method_142_code, 6, (Option.none : Option Jvm.ClassFile.FieldType), [], 10)
/- T.nameHere ()I -/
def K235_0 (E : En_) : List Ii_ := [I_aload 0, I_aload 0, I_getf [(10, 24)], I_push (1), I_icne 1, I_aload 0, I_getf [(10, 25)], I_push (-1), I_icne 1, I_aload 0, I_getf [(10, 22)], I_aload 0, I_getf [(10, 23)], I_isub, I_push (6), I_icgt 1, I_push (1), I_goto 2]
def K235_1 (E : En_) : List Ii_ := [I_push (0), I_goto 2]
def K235_2 (E : En_) : List Ii_ := [I_push (1), I_callv [(10, 228)] [0, 0, 1] no_, I_aload 0, I_callv [(10, 225)] [1] no_, I_ifeq 3, I_aload 0, I_aload 0, I_getf [(10, 23)], I_aload 0, I_getf [(10, 22)], I_aload 0, I_getf [(10, 23)], I_isub, I_callv [(10, 218)] [0, 0, 1] no_, I_goto 4]
def K235_3 (E : En_) : List Ii_ := [I_mask [false], I_push (0), I_goto 4]
def K235_4 (E : En_) : List Ii_ := [I_mask [false], I_iret]
def M235 : Mi_ := (⟨"SpiritWallModel", "nameHere", "()I"⟩, prog_12_method_140_code, 1, (Option.some Jvm.ClassFile.FieldType.int), [], 3)
/- T.isPlaceOf (I)Z -/
def K236_0 (E : En_) : List Ii_ := [I_push (0), I_istore 2, I_goto 1]
def K236_1 (E : En_) : List Ii_ := [I_iload 2, I_aload 0, I_callv [(10, 106)] [1] no_, I_icge 3, I_aload 0, I_iload 2, I_push (1), I_callv [(10, 111)] [0, 0, 1] no_, I_iload 1, I_icne 2, I_push (1), I_nret .boolean]
def K236_2 (E : En_) : List Ii_ := [I_iinc 2 (1), I_goto 1]
def K236_3 (E : En_) : List Ii_ := [I_mask [false, false, false], I_push (0), I_nret .boolean]
def M236 : Mi_ := (⟨"SpiritWallModel", "isPlaceOf", "(I)Z"⟩, prog_12_method_141_code, 3, (Option.some Jvm.ClassFile.FieldType.boolean), [], 2)
/- T.readsSight ()V -/
def K237_0 (E : En_) : List Ii_ := [I_aload 0, I_aload 0, I_callv [(10, 112)] [1] no_, I_push (40), I_icge 1, I_push (1), I_goto 2]
def K237_1 (E : En_) : List Ii_ := [I_mask [true, false, false, false, false, false, false, false], I_push (0), I_goto 2]
def K237_2 (E : En_) : List Ii_ := [I_mask [true, false, false, false, false, false, false, false], I_push (5), I_callv [(10, 228)] [0, 0, 1] no_, I_aload 0, I_callv [(10, 229)] [1] no_, I_aload 0, I_push (-1), I_callv [(10, 238)] [0, 1] no_, I_istore 1, I_aload 0, I_iload 1, I_callv [(10, 238)] [0, 1] no_, I_istore 2, I_aload 0, I_aload 0, I_push (8), I_callv [(10, 233)] [0, 1] no_, I_ifne 3, I_aload 0, I_push (9), I_callv [(10, 233)] [0, 1] no_, I_ifeq 4, I_goto 3]
def K237_3 (E : En_) : List Ii_ := [I_mask [true, true, true, false, false, false, false, false], I_push (1), I_goto 5]
def K237_4 (E : En_) : List Ii_ := [I_mask [true, true, true, false, false, false, false, false], I_push (0), I_goto 5]
def K237_5 (E : En_) : List Ii_ := [I_mask [true, true, true, false, false, false, false, false], I_push (1), I_callv [(10, 228)] [0, 0, 1] no_, I_aload 0, I_push (9), I_callv [(10, 233)] [0, 1] no_, I_ifeq 6, I_push (1), I_goto 7]
def K237_6 (E : En_) : List Ii_ := [I_mask [true, true, true, false, false, false, false, false], I_push (0), I_goto 7]
def K237_7 (E : En_) : List Ii_ := [I_mask [true, true, true, false, false, false, false, false], I_istore 3, I_aload 0, I_callv [(10, 229)] [1] no_, I_aload 0, I_push (-9999), I_push (9999), I_callv [(10, 230)] [0, 0, 1] no_, I_istore 4, I_aload 0, I_push (10), I_callv [(10, 233)] [0, 1] no_, I_istore 5, I_iload 5, I_ifeq 8, I_aload 0, I_callv [(10, 229)] [1] no_, I_goto 8]
def K237_8 (E : En_) : List Ii_ := [I_mask [true, true, true, true, true, true, false, false], I_iload 5, I_ifeq 9, I_aload 0, I_push (-40), I_push (60), I_callv [(10, 230)] [0, 0, 1] no_, I_goto 10]
def K237_9 (E : En_) : List Ii_ := [I_mask [true, true, true, true, true, false, false, false], I_push (20), I_goto 10]
def K237_10 (E : En_) : List Ii_ := [I_mask [true, true, true, true, true, false, false, false], I_istore 6, I_aload 0, I_callv [(10, 225)] [1] no_, I_ifne 11, I_vret]
def K237_11 (E : En_) : List Ii_ := [I_mask [true, true, true, true, true, false, true, false], I_aload 0, I_iload 1, I_iload 2, I_iload 3, I_iload 4, I_iload 6, I_callv [(10, 203)] [0, 0, 0, 0, 0, 1] no_, I_istore 7, I_vret]
def M237 : Mi_ := (⟨"SpiritWallModel", "readsSight", "()V"⟩, prog_12_method_144_code, 8, (Option.none : Option Jvm.ClassFile.FieldType), [], 10)
/- T.markHere (I)I -/
def K238_0 (E : En_) : List Ii_ := [I_aload 0, I_callv [(10, 235)] [1] no_, I_istore 2, I_aload 0, I_callv [(10, 225)] [1] no_, I_ifeq 1, I_aload 0, I_iload 2, I_callv [(10, 219)] [0, 1] no_, I_goto 2]
def K238_1 (E : En_) : List Ii_ := [I_mask [true, true, false, false], I_push (0), I_goto 2]
def K238_2 (E : En_) : List Ii_ := [I_mask [true, true, false, false], I_istore 3, I_aload 0, I_callv [(10, 225)] [1] no_, I_ifeq 6, I_aload 0, I_iload 3, I_push (-1), I_iceq 3, I_iload 3, I_iload 1, I_iceq 4, I_goto 3]
def K238_3 (E : En_) : List Ii_ := [I_mask [true, false, false], I_push (1), I_goto 5]
def K238_4 (E : En_) : List Ii_ := [I_mask [true, false, false], I_push (0), I_goto 5]
def K238_5 (E : En_) : List Ii_ := [I_mask [true, false, false], I_push (3), I_callv [(10, 228)] [0, 0, 1] no_, I_goto 6]
def K238_6 (E : En_) : List Ii_ := [I_mask [true, false, false], I_aload 0, I_iload 3, I_push (-1), I_iceq 7, I_push (1), I_goto 8]
def K238_7 (E : En_) : List Ii_ := [I_mask [true, false, false], I_push (0), I_goto 8]
def K238_8 (E : En_) : List Ii_ := [I_mask [true, false, false], I_push (4), I_callv [(10, 228)] [0, 0, 1] no_, I_aload 0, I_callv [(10, 229)] [1] no_, I_iload 3, I_iret]
def M238 : Mi_ := (⟨"SpiritWallModel", "markHere", "(I)I"⟩, prog_12_method_143_code, 4, (Option.some Jvm.ClassFile.FieldType.int), [], 8)
/- T.errorCode ()I -/
def K239_0 (E : En_) : List Ii_ := [I_aload 0, I_push (0), I_putf [(10, 0)] (.int), I_aload 0, I_getf [(10, 27)], I_iret]
def M239 : Mi_ := (⟨"SpiritWallModel", "errorCode", "()I"⟩, prog_12_method_148_code, 1, (Option.some Jvm.ClassFile.FieldType.int), [], 1)
/- T.errorOffset ()I -/
def K240_0 (E : En_) : List Ii_ := [I_aload 0, I_push (0), I_putf [(10, 0)] (.int), I_aload 0, I_getf [(10, 28)], I_iret]
def M240 : Mi_ := (⟨"SpiritWallModel", "errorOffset", "()I"⟩, prog_12_method_149_code, 1, (Option.some Jvm.ClassFile.FieldType.int), [], 1)
/- T.printMarks ()I -/
def K241_0 (E : En_) : List Ii_ := [I_aload 0, I_push (0), I_putf [(10, 0)] (.int), I_aload 0, I_push (0), I_putf [(10, 31)] (.int), I_push (0), I_istore 1, I_goto 1]
def K241_1 (E : En_) : List Ii_ := [I_iload 1, I_aload 0, I_callv [(10, 106)] [1] no_, I_icge 6, I_iload 1, I_ifle 2, I_aload 0, I_push (32), I_callv [(10, 242)] [0, 1] no_, I_goto 2]
def K241_2 (E : En_) : List Ii_ := [I_aload 0, I_aload 0, I_iload 1, I_push (0), I_callv [(10, 111)] [0, 0, 1] no_, I_callv [(10, 1200)] [0, 1] no_, I_aload 0, I_push (58), I_callv [(10, 242)] [0, 1] no_, I_aload 0, I_iload 1, I_callv [(10, 142)] [0, 1] no_, I_ifeq 3, I_aload 0, I_aload 0, I_iload 1, I_push (4), I_callv [(10, 111)] [0, 0, 1] no_, I_callv [(10, 243)] [0, 1] no_, I_goto 4]
def K241_3 (E : En_) : List Ii_ := [I_aload 0, I_push (63), I_callv [(10, 242)] [0, 1] no_, I_goto 4]
def K241_4 (E : En_) : List Ii_ := [I_aload 0, I_iload 1, I_callv [(10, 158)] [0, 1] no_, I_ifeq 5, I_aload 0, I_push (42), I_callv [(10, 242)] [0, 1] no_, I_goto 5]
def K241_5 (E : En_) : List Ii_ := [I_iinc 1 (1), I_goto 1]
def K241_6 (E : En_) : List Ii_ := [I_mask [true, false], I_aload 0, I_getf [(10, 31)], I_iret]
def M241 : Mi_ := (⟨"SpiritWallModel", "printMarks", "()I"⟩, prog_12_method_155_code, 2, (Option.some Jvm.ClassFile.FieldType.int), [], 14)
/- T.says (I)V -/
def K242_0 (E : En_) : List Ii_ := [I_aload 0, I_getf [(10, 30)], I_aload 0, I_getf [(10, 31)], I_iload 1, I_i2b, I_bast, I_aload 0, I_aload 0, I_getf [(10, 31)], I_push (1), I_iadd, I_putf [(10, 31)] (.int), I_vret]
def M242 : Mi_ := (⟨"SpiritWallModel", "says", "(I)V"⟩, prog_12_method_150_code, 2, (Option.none : Option Jvm.ClassFile.FieldType), [], 1)
/- T.saysNumber (I)V -/
def K243_0 (E : En_) : List Ii_ := [I_iload 1, I_ifge 1, I_aload 0, I_push (45), I_callv [(10, 242)] [0, 1] no_, I_goto 1]
def K243_1 (E : En_) : List Ii_ := [I_aload 0, I_iload 1, I_abs, I_callv [(10, 1100)] [0, 1] no_, I_vret]
def M243 : Mi_ := (⟨"SpiritWallModel", "saysNumber", "(I)V"⟩, prog_12_method_152_code, 2, (Option.none : Option Jvm.ClassFile.FieldType), [], 13)
/- T.printLoop (I)I -/
def K244_0 (E : En_) : List Ii_ := [I_aload 0, I_aload 0, I_iload 1, I_callv [(10, 168)] [0, 1] no_, I_callv [(10, 97)] [0, 1] no_, I_ifne 1, I_push (0), I_iret]
def K244_1 (E : En_) : List Ii_ := [I_mask [true, true, false], I_aload 0, I_push (0), I_putf [(10, 31)] (.int), I_aload 0, I_iload 1, I_callv [(10, 134)] [0, 1] no_, I_aload 0, I_aload 0, I_aload 0, I_iload 1, I_callv [(10, 135)] [0, 1] no_, I_push (12), I_idiv, I_push (0), I_callv [(10, 111)] [0, 0, 1] no_, I_callv [(10, 1200)] [0, 1] no_, I_push (0), I_istore 2, I_goto 2]
def K244_2 (E : En_) : List Ii_ := [I_iload 2, I_aload 0, I_getf [(10, 17)], I_push (1), I_isub, I_icge 3, I_aload 0, I_push (47), I_callv [(10, 242)] [0, 1] no_, I_aload 0, I_aload 0, I_aload 0, I_getf [(10, 16)], I_iload 2, I_iald, I_push (0), I_callv [(10, 111)] [0, 0, 1] no_, I_callv [(10, 1200)] [0, 1] no_, I_iinc 2 (1), I_goto 2]
def K244_3 (E : En_) : List Ii_ := [I_mask [true, true, false], I_aload 0, I_push (32), I_callv [(10, 242)] [0, 1] no_, I_aload 0, I_aload 0, I_iload 1, I_callv [(10, 133)] [0, 1] no_, I_callv [(10, 243)] [0, 1] no_, I_aload 0, I_iload 1, I_callv [(10, 131)] [0, 1] no_, I_ifne 4, I_aload 0, I_push (33), I_callv [(10, 242)] [0, 1] no_, I_goto 4]
def K244_4 (E : En_) : List Ii_ := [I_mask [true, false, false], I_aload 0, I_getf [(10, 31)], I_iret]
def M244 : Mi_ := (⟨"SpiritWallModel", "printLoop", "(I)I"⟩, prog_12_method_156_code, 3, (Option.some Jvm.ClassFile.FieldType.int), [], 20)
/- T.printSight (I)I -/
def K245_0 (E : En_) : List Ii_ := [I_aload 0, I_aload 0, I_iload 1, I_callv [(10, 160)] [0, 1] no_, I_callv [(10, 97)] [0, 1] no_, I_ifne 1, I_push (0), I_iret]
def K245_1 (E : En_) : List Ii_ := [I_aload 0, I_push (0), I_putf [(10, 31)] (.int), I_aload 0, I_iload 1, I_callv [(10, 113)] [0, 1] no_, I_ifne 2, I_aload 0, I_val (.ref (E.2.2.2.2.1 18)), I_callv [(10, 246)] [1, 1] no_, I_goto 2]
def K245_2 (E : En_) : List Ii_ := [I_aload 0, I_val (.ref (E.2.2.2.2.1 19)), I_callv [(10, 246)] [1, 1] no_, I_aload 0, I_aload 0, I_aload 0, I_iload 1, I_push (0), I_callv [(10, 114)] [0, 0, 1] no_, I_push (0), I_callv [(10, 111)] [0, 0, 1] no_, I_callv [(10, 1200)] [0, 1] no_, I_aload 0, I_push (32), I_callv [(10, 242)] [0, 1] no_, I_aload 0, I_aload 0, I_aload 0, I_iload 1, I_push (1), I_callv [(10, 114)] [0, 0, 1] no_, I_push (0), I_callv [(10, 111)] [0, 0, 1] no_, I_callv [(10, 1200)] [0, 1] no_, I_aload 0, I_aload 0, I_iload 1, I_push (2), I_callv [(10, 114)] [0, 0, 1] no_, I_ifne 3, I_val (.ref (E.2.2.2.2.1 20)), I_goto 4]
def K245_3 (E : En_) : List Ii_ := [I_val (.ref (E.2.2.2.2.1 21)), I_goto 4]
def K245_4 (E : En_) : List Ii_ := [I_callv [(10, 246)] [1, 1] no_, I_aload 0, I_aload 0, I_iload 1, I_push (3), I_callv [(10, 114)] [0, 0, 1] no_, I_callv [(10, 243)] [0, 1] no_, I_aload 0, I_val (.ref (E.2.2.2.2.1 22)), I_callv [(10, 246)] [1, 1] no_, I_aload 0, I_aload 0, I_iload 1, I_push (4), I_callv [(10, 114)] [0, 0, 1] no_, I_callv [(10, 243)] [0, 1] no_, I_aload 0, I_getf [(10, 31)], I_iret]
def M245 : Mi_ := (⟨"SpiritWallModel", "printSight", "(I)I"⟩, prog_12_method_157_code, 2, (Option.some Jvm.ClassFile.FieldType.int), [], 14)
/- T.saysWord (Ljava/lang/String;)V -/
def K246_0 (E : En_) : List Ii_ := [I_push (0), I_istore 2, I_goto 1]
def K246_1 (E : En_) : List Ii_ := [I_iload 2, I_aload 1, I_callv [(16, 85)] [1] no_, I_icge 2, I_aload 0, I_aload 1, I_iload 2, I_callv [(16, 89)] [0, 1] no_, I_callv [(10, 242)] [0, 1] no_, I_iinc 2 (1), I_goto 1]
def K246_2 (E : En_) : List Ii_ := [I_mask [false, false, false], I_vret]
def M246 : Mi_ := (⟨"SpiritWallModel", "saysWord", "(Ljava/lang/String;)V"⟩, prog_12_method_154_code, 3, (Option.none : Option Jvm.ClassFile.FieldType), [], 5)
/- T.outputByte (I)I -/
def K247_0 (E : En_) : List Ii_ := [I_aload 0, I_push (0), I_putf [(10, 0)] (.int), I_iload 1, I_i2l, I_pushl (0), I_aload 0, I_getf [(10, 31)], I_i2l, I_pushl (1), I_lsub, I_call 145 [2, 2, 2] no_, I_ifeq 1, I_aload 0, I_getf [(10, 30)], I_iload 1, I_bald, I_goto 2]
def K247_1 (E : En_) : List Ii_ := [I_mask [false, false], I_push (-1), I_goto 2]
def K247_2 (E : En_) : List Ii_ := [I_mask [false, false], I_iret]
def M247 : Mi_ := (⟨"SpiritWallModel", "outputByte", "(I)I"⟩, prog_12_method_158_code, 2, (Option.some Jvm.ClassFile.FieldType.int), [], 2)
/- K.init (Ljava/lang/String;I)V -/
def K248_0 (E : En_) : List Ii_ := [I_aload 0, I_obj, I_aload 0, I_push (-10000000), I_putf [(2, 3)] (.int), I_aload 0, I_aload 1, I_putf [(2, 0)] (.object "java/lang/String"), I_aload 0, I_iload 2, I_putf [(2, 1)] (.int), I_vret]
def M248 : Mi_ := (⟨"SpiritWall$Mark", "<init>", "(Ljava/lang/String;I)V"⟩, prog_3_method_1_code, 3, (Option.none : Option Jvm.ClassFile.FieldType), [], 1)
/- K.fix (I)V -/
def K249_0 (E : En_) : List Ii_ := [I_aload 0, I_push (1), I_putf [(2, 2)] (.boolean), I_aload 0, I_iload 1, I_putf [(2, 3)] (.int), I_vret]
def M249 : Mi_ := (⟨"SpiritWall$Mark", "fix", "(I)V"⟩, prog_3_method_4_code, 2, (Option.none : Option Jvm.ClassFile.FieldType), [], 1)
/- K.has ()Z -/
def K250_0 (E : En_) : List Ii_ := [I_aload 0, I_getf [(2, 3)], I_push (-10000000), I_iceq 1, I_push (1), I_goto 2]
def K250_1 (E : En_) : List Ii_ := [I_mask [false], I_push (0), I_goto 2]
def K250_2 (E : En_) : List Ii_ := [I_mask [false], I_nret .boolean]
def M250 : Mi_ := (⟨"SpiritWall$Mark", "has", "()Z"⟩, prog_3_method_3_code, 1, (Option.some Jvm.ClassFile.FieldType.boolean), [], 1)
/- K.copy ()LSpiritWall$Mark; -/
def K251_0 (E : En_) : List Ii_ := [I_new 2 [.null, .int 0, .int 0, .int 0], I_dup, I_aload 0, I_getf [(2, 0)], I_aload 0, I_getf [(2, 1)], I_calli 248 [0, 1, 1] no_, I_astore 1, I_aload 1, I_aload 0, I_getf [(2, 2)], I_putf [(2, 2)] (.boolean), I_aload 1, I_aload 0, I_getf [(2, 3)], I_putf [(2, 3)] (.int), I_aload 1, I_aret]
def M251 : Mi_ := (⟨"SpiritWall$Mark", "copy", "()LSpiritWall$Mark;"⟩, prog_3_method_2_code, 2, (Option.some (Jvm.ClassFile.FieldType.object "SpiritWall$Mark")), [], 2)
/- G.init (IIIII)V -/
def K252_0 (E : En_) : List Ii_ := [I_aload 0, I_obj, I_aload 0, I_iload 1, I_putf [(3, 0)] (.int), I_aload 0, I_iload 2, I_putf [(3, 1)] (.int), I_aload 0, I_iload 3, I_putf [(3, 2)] (.int), I_aload 0, I_iload 4, I_putf [(3, 3)] (.int), I_aload 0, I_iload 5, I_putf [(3, 4)] (.int), I_vret]
def M252 : Mi_ := (⟨"SpiritWall$Sight", "<init>", "(IIIII)V"⟩, prog_6_method_1_code, 6, (Option.none : Option Jvm.ClassFile.FieldType), [], 1)
/- G.key ()I -/
def K253_0 (E : En_) : List Ii_ := [I_aload 0, I_getf [(3, 0)], I_aload 0, I_getf [(3, 1)], I_call 340 [0, 0] no_, I_iret]
def M253 : Mi_ := (⟨"SpiritWall$Sight", "key", "()I"⟩, prog_6_method_4_code, 1, (Option.some Jvm.ClassFile.FieldType.int), [], 2)
/- G.isWith ()Z -/
def K254_0 (E : En_) : List Ii_ := [I_aload 0, I_getf [(3, 2)], I_ifne 1, I_push (1), I_goto 2]
def K254_1 (E : En_) : List Ii_ := [I_push (0), I_goto 2]
def K254_2 (E : En_) : List Ii_ := [I_aload 0, I_getf [(3, 0)], I_aload 0, I_getf [(3, 1)], I_icge 3, I_push (1), I_goto 4]
def K254_3 (E : En_) : List Ii_ := [I_mask [false], I_push (0), I_goto 4]
def K254_4 (E : En_) : List Ii_ := [I_mask [false], I_icne 5, I_push (1), I_goto 6]
def K254_5 (E : En_) : List Ii_ := [I_mask [false], I_push (0), I_goto 6]
def K254_6 (E : En_) : List Ii_ := [I_mask [false], I_nret .boolean]
def M254 : Mi_ := (⟨"SpiritWall$Sight", "isWith", "()Z"⟩, prog_6_method_6_code, 1, (Option.some Jvm.ClassFile.FieldType.boolean), [], 1)
/- G.sign ()I -/
def K255_0 (E : En_) : List Ii_ := [I_aload 0, I_getf [(3, 0)], I_aload 0, I_getf [(3, 1)], I_icge 1, I_push (1), I_goto 2]
def K255_1 (E : En_) : List Ii_ := [I_mask [false], I_push (-1), I_goto 2]
def K255_2 (E : En_) : List Ii_ := [I_mask [false], I_iret]
def M255 : Mi_ := (⟨"SpiritWall$Sight", "sign", "()I"⟩, prog_6_method_5_code, 1, (Option.some Jvm.ClassFile.FieldType.int), [], 1)
/- G.copy ()LSpiritWall$Sight; -/
def K256_0 (E : En_) : List Ii_ := [I_new 3 [.int 0, .int 0, .int 0, .int 0, .int 0, .int 0], I_dup, I_aload 0, I_getf [(3, 0)], I_aload 0, I_getf [(3, 1)], I_aload 0, I_getf [(3, 2)], I_aload 0, I_getf [(3, 3)], I_aload 0, I_getf [(3, 4)], I_calli 252 [0, 0, 0, 0, 0, 1] no_, I_astore 1, I_aload 1, I_aload 0, I_getf [(3, 5)], I_putf [(3, 5)] (.boolean), I_aload 1, I_aret]
def M256 : Mi_ := (⟨"SpiritWall$Sight", "copy", "()LSpiritWall$Sight;"⟩, prog_6_method_2_code, 2, (Option.some (Jvm.ClassFile.FieldType.object "SpiritWall$Sight")), [], 2)
/- G.has (I)Z -/
def K257_0 (E : En_) : List Ii_ := [I_aload 0, I_getf [(3, 0)], I_iload 1, I_iceq 1, I_aload 0, I_getf [(3, 1)], I_iload 1, I_icne 2, I_goto 1]
def K257_1 (E : En_) : List Ii_ := [I_mask [false, false], I_push (1), I_goto 3]
def K257_2 (E : En_) : List Ii_ := [I_mask [false, false], I_push (0), I_goto 3]
def K257_3 (E : En_) : List Ii_ := [I_mask [false, false], I_nret .boolean]
def M257 : Mi_ := (⟨"SpiritWall$Sight", "has", "(I)Z"⟩, prog_6_method_3_code, 2, (Option.some Jvm.ClassFile.FieldType.boolean), [], 1)
/- L.init ([III)V -/
def K258_0 (E : En_) : List Ii_ := [I_aload 0, I_obj, I_aload 0, I_aload 1, I_putf [(4, 0)] (.array .int), I_aload 0, I_iload 2, I_putf [(4, 1)] (.int), I_aload 0, I_iload 3, I_putf [(4, 2)] (.int), I_vret]
def M258 : Mi_ := (⟨"SpiritWall$Loop", "<init>", "([III)V"⟩, prog_2_method_1_code, 4, (Option.none : Option Jvm.ClassFile.FieldType), [], 1)
/- L.closes (I)Z -/
def K259_0 (E : En_) : List Ii_ := [I_pushl (1000), I_aload 0, I_getf [(4, 1)], I_i2l, I_lmul, I_aload 0, I_getf [(4, 1)], I_i2l, I_lmul, I_iload 1, I_i2l, I_iload 1, I_i2l, I_lmul, I_aload 0, I_getf [(4, 2)], I_i2l, I_lmul, I_lcmp, I_ifgt 1, I_push (1), I_goto 2]
def K259_1 (E : En_) : List Ii_ := [I_mask [false, false], I_push (0), I_goto 2]
def K259_2 (E : En_) : List Ii_ := [I_mask [false, false], I_nret .boolean]
def M259 : Mi_ := (⟨"SpiritWall$Loop", "closes", "(I)Z"⟩, prog_2_method_2_code, 2, (Option.some Jvm.ClassFile.FieldType.boolean), [], 1)
/- L.isWorse (LSpiritWall$Loop;)Z -/
def K260_0 (E : En_) : List Ii_ := [I_aload 0, I_getf [(4, 1)], I_i2l, I_aload 0, I_getf [(4, 1)], I_i2l, I_lmul, I_aload 1, I_getf [(4, 2)], I_i2l, I_lmul, I_aload 1, I_getf [(4, 1)], I_i2l, I_aload 1, I_getf [(4, 1)], I_i2l, I_lmul, I_aload 0, I_getf [(4, 2)], I_i2l, I_lmul, I_lcmp, I_ifle 1, I_push (1), I_goto 2]
def K260_1 (E : En_) : List Ii_ := [I_mask [false, false], I_push (0), I_goto 2]
def K260_2 (E : En_) : List Ii_ := [I_mask [false, false], I_nret .boolean]
def M260 : Mi_ := (⟨"SpiritWall$Loop", "isWorse", "(LSpiritWall$Loop;)Z"⟩, prog_2_method_3_code, 2, (Option.some Jvm.ClassFile.FieldType.boolean), [], 1)
/- L.has (I)Z -/
def K261_0 (E : En_) : List Ii_ := [I_push (0), I_istore 2, I_goto 1]
def K261_1 (E : En_) : List Ii_ := [I_iload 2, I_aload 0, I_getf [(4, 0)], I_alen, I_icge 3, I_aload 0, I_getf [(4, 0)], I_iload 2, I_iald, I_aload 0, I_getf [(4, 0)], I_iload 2, I_push (1), I_iadd, I_aload 0, I_getf [(4, 0)], I_alen, I_irem, I_iald, I_call 340 [0, 0] no_, I_iload 1, I_icne 2, I_push (1), I_nret .boolean]
def K261_2 (E : En_) : List Ii_ := [I_iinc 2 (1), I_goto 1]
def K261_3 (E : En_) : List Ii_ := [I_mask [false, false, false], I_push (0), I_nret .boolean]
def M261 : Mi_ := (⟨"SpiritWall$Loop", "has", "(I)Z"⟩, prog_2_method_4_code, 3, (Option.some Jvm.ClassFile.FieldType.boolean), [], 2)
/- X.init (II)V -/
def K262_0 (E : En_) : List Ii_ := [I_aload 0, I_null, I_null, I_push (0), I_push (0), I_calli 39 [0, 0, 1, 1, 1] no_, I_aload 0, I_iload 1, I_putf [(9, 6)] (.int), I_aload 0, I_iload 2, I_putf [(9, 7)] (.int), I_vret]
def M262 : Mi_ := (⟨"SpiritWall$ParseException", "<init>", "(II)V"⟩, prog_4_method_1_code, 3, (Option.none : Option Jvm.ClassFile.FieldType), [], 3)
/- R.init (LSpiritWall$Wall;)V -/
def K263_0 (E : En_) : List Ii_ := [I_aload 0, I_aload 1, I_putf [(8, 1)] (.object "SpiritWall$Wall"), I_aload 0, I_obj, I_aload 0, I_new 11 [.int 0, .null, .int 0], I_dup, I_calli 25 [1] no_, I_putf [(8, 0)] (.object "java/util/List"), I_vret]
def M263 : Mi_ := (⟨"SpiritWall$Wall$1Row", "<init>", "(LSpiritWall$Wall;)V"⟩, prog_8_method_1_code, 2, (Option.none : Option Jvm.ClassFile.FieldType), [], 4)
/- R.add (I)V -/
def K264_0 (E : En_) : List Ii_ := [I_push (0), I_istore 2, I_goto 1]
def K264_1 (E : En_) : List Ii_ := [I_iload 2, I_aload 0, I_getf [(8, 0)], I_callv [(11, 26), (18, 11)] [1] no_, I_icge 2, I_aload 0, I_getf [(8, 0)], I_iload 2, I_callv [(11, 27)] [0, 1] no_, I_cast [17] [], I_callv [(17, 43)] [1] no_, I_iload 1, I_icge 2, I_iinc 2 (1), I_goto 1]
def K264_2 (E : En_) : List Ii_ := [I_aload 0, I_getf [(8, 0)], I_iload 2, I_iload 1, I_call 44 [0] no_, I_callv [(11, 35)] [1, 0, 1] no_, I_vret]
def M264 : Mi_ := (⟨"SpiritWall$Wall$1Row", "add", "(I)V"⟩, prog_8_method_2_code, 3, (Option.none : Option Jvm.ClassFile.FieldType), [], 6)
/- R.median ()I -/
def K265_0 (E : En_) : List Ii_ := [I_aload 0, I_getf [(8, 0)], I_callv [(11, 36)] [1] no_, I_ifeq 1, I_push (0), I_goto 2]
def K265_1 (E : En_) : List Ii_ := [I_aload 0, I_getf [(8, 0)], I_aload 0, I_getf [(8, 0)], I_callv [(11, 26), (18, 11)] [1] no_, I_push (1), I_isub, I_push (2), I_idiv, I_callv [(11, 27)] [0, 1] no_, I_cast [17] [], I_callv [(17, 43)] [1] no_, I_goto 2]
def K265_2 (E : En_) : List Ii_ := [I_mask [false], I_iret]
def M265 : Mi_ := (⟨"SpiritWall$Wall$1Row", "median", "()I"⟩, prog_8_method_3_code, 1, (Option.some Jvm.ClassFile.FieldType.int), [], 4)
/- I.hasNext ()Z -/
def K266_0 (E : En_) : List Ii_ := [I_aload 0, I_getf [(7, 0)], I_aload 0, I_getf [(7, 1)], I_getf [(6, 0)], I_alen, I_icge 1, I_push (1), I_goto 2]
def K266_1 (E : En_) : List Ii_ := [I_mask [false], I_push (0), I_goto 2]
def K266_2 (E : En_) : List Ii_ := [I_mask [false], I_nret .boolean]
def M266 : Mi_ := (⟨"SpiritWall$Wall$Net$1", "hasNext", "()Z"⟩, prog_10_method_3_code, 1, (Option.some Jvm.ClassFile.FieldType.boolean), [], 1)
/- I.next ()Ljava/lang/Object; -/
def K267_0 (E : En_) : List Ii_ := [I_aload 0, I_callv [(7, 268)] [1] no_, I_aret]
def M267 : Mi_ := (⟨"SpiritWall$Wall$Net$1", "next", "()Ljava/lang/Object;"⟩, prog_10_method_5_code, 1, (Option.some (Jvm.ClassFile.FieldType.object "java/lang/Object")), [], 5)
/- I.next_2 ()Ljava/lang/Integer; -/
def K268_0 (E : En_) : List Ii_ := [I_aload 0, I_callv [(7, 266)] [1] no_, I_ifne 1, I_stuck]
def K268_1 (E : En_) : List Ii_ := [I_mask [true, false], I_aload 0, I_getf [(7, 0)], I_istore 1, I_aload 0, I_aload 0, I_iload 1, I_callv [(7, 269)] [0, 1] no_, I_putf [(7, 0)] (.int), I_iload 1, I_call 44 [0] no_, I_aret]
def M268 : Mi_ := (⟨"SpiritWall$Wall$Net$1", "next", "()Ljava/lang/Integer;"⟩, prog_10_method_4_code, 2, (Option.some (Jvm.ClassFile.FieldType.object "java/lang/Integer")), [], 4)
/- I.after (I)I -/
def K269_0 (E : En_) : List Ii_ := [I_iload 1, I_push (1), I_iadd, I_istore 2, I_goto 1]
def K269_1 (E : En_) : List Ii_ := [I_mask [true, false], I_iload 2, I_aload 0, I_getf [(7, 1)], I_getf [(6, 0)], I_alen, I_icge 2, I_aload 0, I_getf [(7, 1)], I_getf [(6, 0)], I_iload 2, I_iald, I_ifne 2, I_iinc 2 (1), I_goto 1]
def K269_2 (E : En_) : List Ii_ := [I_mask [false, false], I_iload 2, I_iret]
def M269 : Mi_ := (⟨"SpiritWall$Wall$Net$1", "after", "(I)I"⟩, prog_10_method_2_code, 3, (Option.some Jvm.ClassFile.FieldType.int), [], 1)
/- I.init (LSpiritWall$Wall$Net;)V -/
def K270_0 (E : En_) : List Ii_ := [I_aload 0, I_aload 1, I_putf [(7, 1)] (.object "SpiritWall$Wall$Net"), I_aload 0, I_obj, I_aload 0, I_aload 0, I_push (-1), I_callv [(7, 269)] [0, 1] no_, I_putf [(7, 0)] (.int), I_vret]
def M270 : Mi_ := (⟨"SpiritWall$Wall$Net$1", "<init>", "(LSpiritWall$Wall$Net;)V"⟩, prog_10_method_1_code, 2, (Option.none : Option Jvm.ClassFile.FieldType), [], 2)
/- W.init ()V -/
def K271_0 (E : En_) : List Ii_ := [I_aload 0, I_obj, I_aload 0, I_new 11 [.int 0, .null, .int 0], I_dup, I_calli 25 [1] no_, I_putf [(1, 0)] (.object "java/util/List"), I_aload 0, I_new 11 [.int 0, .null, .int 0], I_dup, I_calli 25 [1] no_, I_putf [(1, 1)] (.object "java/util/List"), I_aload 0, I_push (4), I_newa 0, I_dup, I_push (0), I_push (1000), I_iast, I_dup, I_push (1), I_push (0), I_iast, I_dup, I_push (2), I_push (0), I_iast, I_dup, I_push (3), I_push (10), I_iast, I_putf [(1, 2)] (.array .int), I_vret]
def M271 : Mi_ := (⟨"SpiritWall$Wall", "<init>", "()V"⟩, prog_7_method_1_code, 1, (Option.none : Option Jvm.ClassFile.FieldType), [], 4)
/- W.named (Ljava/lang/String;)I -/
def K272_0 (E : En_) : List Ii_ := [I_push (0), I_istore 2, I_goto 1]
def K272_1 (E : En_) : List Ii_ := [I_iload 2, I_aload 0, I_getf [(1, 0)], I_callv [(11, 26), (18, 11)] [1] no_, I_icge 3, I_aload 0, I_getf [(1, 0)], I_iload 2, I_callv [(11, 27)] [0, 1] no_, I_cast [2] [], I_getf [(2, 0)], I_aload 1, I_callv [(16, 88)] [1, 1] no_, I_ifeq 2, I_iload 2, I_iret]
def K272_2 (E : En_) : List Ii_ := [I_iinc 2 (1), I_goto 1]
def K272_3 (E : En_) : List Ii_ := [I_mask [false, false, false], I_push (-1), I_iret]
def M272 : Mi_ := (⟨"SpiritWall$Wall", "named", "(Ljava/lang/String;)I"⟩, prog_7_method_3_code, 3, (Option.some Jvm.ClassFile.FieldType.int), [], 4)
/- W.benches ()I -/
def K273_0 (E : En_) : List Ii_ := [I_push (0), I_istore 1, I_aload 0, I_getf [(1, 0)], I_callv [(11, 29)] [1] no_, I_astore 2, I_goto 1]
def K273_1 (E : En_) : List Ii_ := [I_mask [false, true, true, false], I_aload 2, I_callv [(7, 266), (12, 47)] [1] no_, I_ifeq 2, I_aload 2, I_callv [(7, 267), (12, 48)] [1] no_, I_cast [2] [], I_astore 3, I_iload 1, I_aload 3, I_getf [(2, 2)], I_call 338 [0] no_, I_iadd, I_istore 1, I_goto 1]
def K273_2 (E : En_) : List Ii_ := [I_mask [false, true, false, false], I_iload 1, I_iret]
def M273 : Mi_ := (⟨"SpiritWall$Wall", "benches", "()I"⟩, prog_7_method_15_code, 4, (Option.some Jvm.ClassFile.FieldType.int), [], 6)
/- W.struck ()I -/
def K274_0 (E : En_) : List Ii_ := [I_push (0), I_istore 1, I_aload 0, I_getf [(1, 1)], I_callv [(11, 29)] [1] no_, I_astore 2, I_goto 1]
def K274_1 (E : En_) : List Ii_ := [I_mask [false, true, true, false], I_aload 2, I_callv [(7, 266), (12, 47)] [1] no_, I_ifeq 2, I_aload 2, I_callv [(7, 267), (12, 48)] [1] no_, I_cast [3] [], I_astore 3, I_iload 1, I_aload 3, I_getf [(3, 5)], I_call 338 [0] no_, I_iadd, I_istore 1, I_goto 1]
def K274_2 (E : En_) : List Ii_ := [I_mask [false, true, false, false], I_iload 1, I_iret]
def M274 : Mi_ := (⟨"SpiritWall$Wall", "struck", "()I"⟩, prog_7_method_17_code, 4, (Option.some Jvm.ClassFile.FieldType.int), [], 6)
/- W.error ()I -/
def K275_0 (E : En_) : List Ii_ := [I_aload 0, I_getf [(1, 3)], I_ifeq 1, I_aload 0, I_getf [(1, 4)], I_goto 2]
def K275_1 (E : En_) : List Ii_ := [I_aload 0, I_callv [(1, 276)] [1] no_, I_goto 2]
def K275_2 (E : En_) : List Ii_ := [I_mask [false], I_iret]
def M275 : Mi_ := (⟨"SpiritWall$Wall", "error", "()I"⟩, prog_7_method_14_code, 1, (Option.some Jvm.ClassFile.FieldType.int), [], 10)
/- W.found ()I -/
def K276_0 (E : En_) : List Ii_ := [I_new 8 [.null, .null], I_dup, I_aload 0, I_calli 263 [1, 1] no_, I_astore 1, I_push (0), I_istore 2, I_goto 1]
def K276_1 (E : En_) : List Ii_ := [I_mask [true, true, true, false, false], I_iload 2, I_aload 0, I_getf [(1, 0)], I_callv [(11, 26), (18, 11)] [1] no_, I_icge 5, I_iload 2, I_push (1), I_iadd, I_istore 3, I_goto 2]
def K276_2 (E : En_) : List Ii_ := [I_mask [true, true, true, true, false], I_iload 3, I_aload 0, I_getf [(1, 0)], I_callv [(11, 26), (18, 11)] [1] no_, I_icge 4, I_aload 0, I_iload 2, I_iload 3, I_call 340 [0, 0] no_, I_callv [(1, 277)] [0, 1] no_, I_istore 4, I_iload 4, I_push (-10000000), I_iceq 3, I_aload 1, I_iload 4, I_callv [(8, 264)] [0, 1] no_, I_goto 3]
def K276_3 (E : En_) : List Ii_ := [I_mask [true, true, true, true, false], I_iinc 3 (1), I_goto 2]
def K276_4 (E : En_) : List Ii_ := [I_mask [true, true, true, false, false], I_iinc 2 (1), I_goto 1]
def K276_5 (E : En_) : List Ii_ := [I_mask [false, true, false, false, false], I_aload 1, I_callv [(8, 265)] [1] no_, I_iret]
def M276 : Mi_ := (⟨"SpiritWall$Wall", "found", "()I"⟩, prog_7_method_13_code, 5, (Option.some Jvm.ClassFile.FieldType.int), [], 9)
/- W.estimate (I)I -/
def K277_0 (E : En_) : List Ii_ := [I_aload 0, I_aload 0, I_iload 1, I_push (12), I_idiv, I_iload 1, I_push (12), I_irem, I_callv [(1, 278)] [0, 0, 1] no_, I_callv [(1, 279)] [0, 1] no_, I_push (2), I_irem, I_ifne 1, I_push (-10000000), I_iret]
def K277_1 (E : En_) : List Ii_ := [I_mask [true, true, false, false], I_aload 0, I_iload 1, I_push (1), I_callv [(1, 280)] [0, 0, 1] no_, I_istore 2, I_aload 0, I_iload 1, I_push (0), I_callv [(1, 280)] [0, 0, 1] no_, I_istore 3, I_iload 2, I_push (-10000000), I_iceq 2, I_iload 3, I_push (-10000000), I_icne 3, I_goto 2]
def K277_2 (E : En_) : List Ii_ := [I_mask [false, false, false, false], I_push (-10000000), I_goto 4]
def K277_3 (E : En_) : List Ii_ := [I_mask [false, false], I_iload 2, I_iload 3, I_isub, I_push (2), I_call 15 [0, 0] no_, I_goto 4]
def K277_4 (E : En_) : List Ii_ := [I_mask [false, false, false, false], I_iret]
def M277 : Mi_ := (⟨"SpiritWall$Wall", "estimate", "(I)I"⟩, prog_7_method_12_code, 4, (Option.some Jvm.ClassFile.FieldType.int), [], 8)
/- W.distance (II)I -/
def K278_0 (E : En_) : List Ii_ := [I_aload 0, I_getf [(1, 0)], I_iload 1, I_callv [(11, 27)] [0, 1] no_, I_cast [2] [], I_getf [(2, 1)], I_aload 0, I_getf [(1, 0)], I_iload 2, I_callv [(11, 27)] [0, 1] no_, I_cast [2] [], I_getf [(2, 1)], I_isub, I_abs, I_iret]
def M278 : Mi_ := (⟨"SpiritWall$Wall", "distance", "(II)I"⟩, prog_7_method_4_code, 3, (Option.some Jvm.ClassFile.FieldType.int), [], 4)
/- W.swings (I)I -/
def K279_0 (E : En_) : List Ii_ := [I_iload 1, I_aload 0, I_getf [(1, 2)], I_push (0), I_iald, I_iadd, I_push (1), I_isub, I_aload 0, I_getf [(1, 2)], I_push (0), I_iald, I_idiv, I_iret]
def M279 : Mi_ := (⟨"SpiritWall$Wall", "swings", "(I)I"⟩, prog_7_method_5_code, 2, (Option.some Jvm.ClassFile.FieldType.int), [], 1)
/- W.meanPure (IZ)I -/
def K280_0 (E : En_) : List Ii_ := [I_pushl (0), I_lstore 3, I_push (0), I_istore 5, I_push (0), I_istore 6, I_goto 1]
def K280_1 (E : En_) : List Ii_ := [I_mask [true, true, true, true, false, true, true, false], I_iload 6, I_aload 0, I_getf [(1, 1)], I_callv [(11, 26), (18, 11)] [1] no_, I_icge 4, I_aload 0, I_getf [(1, 1)], I_iload 6, I_callv [(11, 27)] [0, 1] no_, I_cast [3] [], I_astore 7, I_aload 7, I_getf [(3, 5)], I_ifne 3, I_aload 7, I_callv [(3, 253)] [1] no_, I_iload 1, I_icne 3, I_aload 7, I_callv [(3, 254)] [1] no_, I_iload 2, I_iceq 2, I_goto 3]
def K280_2 (E : En_) : List Ii_ := [I_mask [true, true, true, true, false], I_lload 3, I_aload 7, I_callv [(3, 255)] [1] no_, I_aload 0, I_aload 7, I_callv [(1, 281)] [1, 1] no_, I_imul, I_i2l, I_ladd, I_lstore 3, I_iinc 5 (1), I_goto 3]
def K280_3 (E : En_) : List Ii_ := [I_mask [true, true, true, true, false, true, true, false], I_iinc 6 (1), I_goto 1]
def K280_4 (E : En_) : List Ii_ := [I_mask [false, false, false, true, false, true, false, false], I_iload 5, I_ifne 5, I_push (-10000000), I_goto 6]
def K280_5 (E : En_) : List Ii_ := [I_mask [false, false, false, true, false, true, false, false], I_lload 3, I_iload 5, I_i2l, I_call 14 [2, 2] no_, I_l2i, I_goto 6]
def K280_6 (E : En_) : List Ii_ := [I_mask [false, false, false, false, false, false, false, false], I_iret]
def M280 : Mi_ := (⟨"SpiritWall$Wall", "meanPure", "(IZ)I"⟩, prog_7_method_11_code, 8, (Option.some Jvm.ClassFile.FieldType.int), [], 7)
/- W.pure (LSpiritWall$Sight;)I -/
def K281_0 (E : En_) : List Ii_ := [I_aload 1, I_getf [(3, 3)], I_aload 0, I_aload 1, I_callv [(1, 282)] [1, 1] no_, I_isub, I_aload 0, I_aload 1, I_callv [(1, 283)] [1, 1] no_, I_isub, I_iret]
def M281 : Mi_ := (⟨"SpiritWall$Wall", "pure", "(LSpiritWall$Sight;)I"⟩, prog_7_method_9_code, 2, (Option.some Jvm.ClassFile.FieldType.int), [], 6)
/- W.bend (LSpiritWall$Sight;)I -/
def K282_0 (E : En_) : List Ii_ := [I_aload 0, I_aload 1, I_getf [(3, 0)], I_aload 1, I_getf [(3, 1)], I_callv [(1, 278)] [0, 0, 1] no_, I_i2l, I_lstore 2, I_aload 0, I_getf [(1, 2)], I_push (1), I_iald, I_i2l, I_lload 2, I_lmul, I_lload 2, I_lmul, I_pushl (100000000), I_ldiv, I_l2i, I_iret]
def M282 : Mi_ := (⟨"SpiritWall$Wall", "bend", "(LSpiritWall$Sight;)I"⟩, prog_7_method_7_code, 4, (Option.some Jvm.ClassFile.FieldType.int), [], 5)
/- W.warmth (LSpiritWall$Sight;)I -/
def K283_0 (E : En_) : List Ii_ := [I_aload 0, I_getf [(1, 2)], I_push (2), I_iald, I_i2l, I_aload 1, I_getf [(3, 4)], I_push (20), I_isub, I_i2l, I_lmul, I_aload 0, I_aload 1, I_getf [(3, 0)], I_aload 1, I_getf [(3, 1)], I_callv [(1, 278)] [0, 0, 1] no_, I_i2l, I_lmul, I_pushl (100000), I_call 14 [2, 2] no_, I_l2i, I_iret]
def M283 : Mi_ := (⟨"SpiritWall$Wall", "warmth", "(LSpiritWall$Sight;)I"⟩, prog_7_method_8_code, 2, (Option.some Jvm.ClassFile.FieldType.int), [], 5)
/- W.rise (LSpiritWall$Sight;I)I -/
def K284_0 (E : En_) : List Ii_ := [I_aload 0, I_aload 1, I_callv [(1, 285)] [1, 1] no_, I_push (2), I_irem, I_ifne 1, I_aload 0, I_aload 1, I_callv [(1, 281)] [1, 1] no_, I_iret]
def K284_1 (E : En_) : List Ii_ := [I_aload 0, I_aload 1, I_callv [(1, 281)] [1, 1] no_, I_aload 1, I_getf [(3, 2)], I_ifne 2, I_iload 2, I_goto 3]
def K284_2 (E : En_) : List Ii_ := [I_mask [false, false], I_iload 2, I_ineg, I_goto 3]
def K284_3 (E : En_) : List Ii_ := [I_mask [false, false, false], I_isub, I_iret]
def M284 : Mi_ := (⟨"SpiritWall$Wall", "rise", "(LSpiritWall$Sight;I)I"⟩, prog_7_method_10_code, 3, (Option.some Jvm.ClassFile.FieldType.int), [], 7)
/- W.swings_2 (LSpiritWall$Sight;)I -/
def K285_0 (E : En_) : List Ii_ := [I_aload 0, I_aload 0, I_aload 1, I_getf [(3, 0)], I_aload 1, I_getf [(3, 1)], I_callv [(1, 278)] [0, 0, 1] no_, I_callv [(1, 279)] [0, 1] no_, I_iret]
def M285 : Mi_ := (⟨"SpiritWall$Wall", "swings", "(LSpiritWall$Sight;)I"⟩, prog_7_method_6_code, 2, (Option.some Jvm.ClassFile.FieldType.int), [], 5)
/- W.heights ()I -/
def K286_0 (E : En_) : List Ii_ := [I_push (0), I_istore 1, I_aload 0, I_getf [(1, 0)], I_callv [(11, 29)] [1] no_, I_astore 2, I_goto 1]
def K286_1 (E : En_) : List Ii_ := [I_mask [false, true, true, false], I_aload 2, I_callv [(7, 266), (12, 47)] [1] no_, I_ifeq 2, I_aload 2, I_callv [(7, 267), (12, 48)] [1] no_, I_cast [2] [], I_astore 3, I_iload 1, I_aload 3, I_callv [(2, 250)] [1] no_, I_call 338 [0] no_, I_iadd, I_istore 1, I_goto 1]
def K286_2 (E : En_) : List Ii_ := [I_mask [false, true, false, false], I_iload 1, I_iret]
def M286 : Mi_ := (⟨"SpiritWall$Wall", "heights", "()I"⟩, prog_7_method_16_code, 4, (Option.some Jvm.ClassFile.FieldType.int), [], 6)
/- W.copy ()LSpiritWall$Wall; -/
def K287_0 (E : En_) : List Ii_ := [I_new 1 [.null, .null, .null, .int 0, .int 0], I_dup, I_calli 271 [1] no_, I_astore 1, I_aload 0, I_getf [(1, 0)], I_callv [(11, 29)] [1] no_, I_astore 2, I_goto 1]
def K287_1 (E : En_) : List Ii_ := [I_mask [true, true, true, false], I_aload 2, I_callv [(7, 266), (12, 47)] [1] no_, I_ifeq 2, I_aload 2, I_callv [(7, 267), (12, 48)] [1] no_, I_cast [2] [], I_astore 3, I_aload 1, I_getf [(1, 0)], I_aload 3, I_callv [(2, 251)] [1] no_, I_callv [(11, 31)] [1, 1] no_, I_pop, I_goto 1]
def K287_2 (E : En_) : List Ii_ := [I_mask [true, true, false, false], I_aload 0, I_getf [(1, 1)], I_callv [(11, 29)] [1] no_, I_astore 2, I_goto 3]
def K287_3 (E : En_) : List Ii_ := [I_mask [true, true, true, false], I_aload 2, I_callv [(7, 266), (12, 47)] [1] no_, I_ifeq 4, I_aload 2, I_callv [(7, 267), (12, 48)] [1] no_, I_cast [3] [], I_astore 3, I_aload 1, I_getf [(1, 1)], I_aload 3, I_callv [(3, 256)] [1] no_, I_callv [(11, 31)] [1, 1] no_, I_pop, I_goto 3]
def K287_4 (E : En_) : List Ii_ := [I_mask [true, true, false, false], I_aload 0, I_getf [(1, 2)], I_push (0), I_aload 1, I_getf [(1, 2)], I_push (0), I_push (4), I_acopy cO_, I_aload 1, I_aload 0, I_getf [(1, 3)], I_putf [(1, 3)] (.boolean), I_aload 1, I_aload 0, I_getf [(1, 4)], I_putf [(1, 4)] (.int), I_aload 1, I_aret]
def M287 : Mi_ := (⟨"SpiritWall$Wall", "copy", "()LSpiritWall$Wall;"⟩, prog_7_method_2_code, 4, (Option.some (Jvm.ClassFile.FieldType.object "SpiritWall$Wall")), [], 7)
/- N.init (LSpiritWall$Wall;)V -/
def K288_0 (E : En_) : List Ii_ := [I_aload 0, I_aload 1, I_putf [(6, 12)] (.object "SpiritWall$Wall"), I_aload 0, I_obj, I_aload 0, I_push (144), I_newa 0, I_putf [(6, 0)] (.array .int), I_aload 0, I_push (144), I_newa 0, I_putf [(6, 1)] (.array .int), I_aload 0, I_push (144), I_newa 0, I_putf [(6, 2)] (.array .int), I_aload 0, I_push (144), I_newa 0, I_putf [(6, 3)] (.array .int), I_aload 0, I_push (12), I_newa 0, I_putf [(6, 4)] (.array .int), I_aload 0, I_push (144), I_newa 2, I_putf [(6, 5)] (.array .boolean), I_aload 0, I_new 11 [.int 0, .null, .int 0], I_dup, I_calli 25 [1] no_, I_putf [(6, 6)] (.object "java/util/List"), I_aload 0, I_aload 0, I_getf [(6, 12)], I_callv [(1, 275)] [1] no_, I_putf [(6, 7)] (.int), I_aload 0, I_push (12), I_newa 0, I_putf [(6, 8)] (.array .int), I_aload 0, I_push (12), I_newa 0, I_putf [(6, 9)] (.array .int), I_aload 0, I_push (12), I_newa 0, I_putf [(6, 10)] (.array .int), I_aload 0, I_callv [(6, 289)] [1] no_, I_aload 0, I_callv [(6, 291)] [1] no_, I_aload 0, I_callv [(6, 293)] [1] no_, I_aload 0, I_callv [(6, 290)] [1] no_, I_astore 2, I_goto 1]
def K288_1 (E : En_) : List Ii_ := [I_mask [true, false, true, false], I_aload 2, I_callv [(7, 266), (12, 47)] [1] no_, I_ifeq 3, I_aload 2, I_callv [(7, 267), (12, 48)] [1] no_, I_cast [17] [], I_callv [(17, 43)] [1] no_, I_istore 3, I_aload 0, I_getf [(6, 5)], I_iload 3, I_bald, I_ifne 2, I_aload 0, I_getf [(6, 6)], I_aload 0, I_iload 3, I_callv [(6, 295)] [0, 1] no_, I_callv [(11, 31)] [1, 1] no_, I_pop, I_goto 2]
def K288_2 (E : En_) : List Ii_ := [I_mask [true, false, true, false], I_goto 1]
def K288_3 (E : En_) : List Ii_ := [I_mask [false, false, false, false], I_vret]
def M288 : Mi_ := (⟨"SpiritWall$Wall$Net", "<init>", "(LSpiritWall$Wall;)V"⟩, prog_9_method_1_code, 4, (Option.none : Option Jvm.ClassFile.FieldType), [], 11)
/- N.layRises ()V -/
def K289_0 (E : En_) : List Ii_ := [I_aload 0, I_getf [(6, 12)], I_getf [(1, 1)], I_callv [(11, 29)] [1] no_, I_astore 1, I_goto 1]
def K289_1 (E : En_) : List Ii_ := [I_mask [true, true, false, false, false], I_aload 1, I_callv [(7, 266), (12, 47)] [1] no_, I_ifeq 7, I_aload 1, I_callv [(7, 267), (12, 48)] [1] no_, I_cast [3] [], I_astore 2, I_aload 2, I_getf [(3, 5)], I_ifeq 2, I_goto 1]
def K289_2 (E : En_) : List Ii_ := [I_mask [true, true, true, false, false], I_aload 2, I_callv [(3, 253)] [1] no_, I_istore 3, I_aload 2, I_callv [(3, 255)] [1] no_, I_aload 0, I_getf [(6, 12)], I_aload 2, I_aload 0, I_getf [(6, 7)], I_callv [(1, 284)] [0, 1, 1] no_, I_imul, I_istore 4, I_aload 0, I_getf [(6, 2)], I_iload 3, I_aload 0, I_getf [(6, 0)], I_iload 3, I_iald, I_ifne 3, I_iload 4, I_goto 4]
def K289_3 (E : En_) : List Ii_ := [I_mask [true, true, false], I_aload 0, I_getf [(6, 2)], I_iload 3, I_iald, I_iload 4, I_min, I_goto 4]
def K289_4 (E : En_) : List Ii_ := [I_mask [true, true, false], I_iast, I_aload 0, I_getf [(6, 3)], I_iload 3, I_aload 0, I_getf [(6, 0)], I_iload 3, I_iald, I_ifne 5, I_iload 4, I_goto 6]
def K289_5 (E : En_) : List Ii_ := [I_mask [true, true, false], I_aload 0, I_getf [(6, 3)], I_iload 3, I_iald, I_iload 4, I_max, I_goto 6]
def K289_6 (E : En_) : List Ii_ := [I_mask [true, true, false], I_iast, I_aload 0, I_getf [(6, 1)], I_iload 3, I_dup2, I_iald, I_iload 4, I_iadd, I_iast, I_aload 0, I_getf [(6, 0)], I_iload 3, I_dup2, I_iald, I_push (1), I_iadd, I_iast, I_goto 1]
def K289_7 (E : En_) : List Ii_ := [I_mask [true, false, false, false, false], I_aload 0, I_callv [(6, 290)] [1] no_, I_astore 1, I_goto 8]
def K289_8 (E : En_) : List Ii_ := [I_mask [true, true, false, false, false], I_aload 1, I_callv [(7, 266), (12, 47)] [1] no_, I_ifeq 9, I_aload 1, I_callv [(7, 267), (12, 48)] [1] no_, I_cast [17] [], I_callv [(17, 43)] [1] no_, I_istore 2, I_aload 0, I_getf [(6, 1)], I_iload 2, I_aload 0, I_getf [(6, 1)], I_iload 2, I_iald, I_aload 0, I_getf [(6, 0)], I_iload 2, I_iald, I_call 15 [0, 0] no_, I_iast, I_goto 8]
def K289_9 (E : En_) : List Ii_ := [I_mask [false, false, false, false, false], I_vret]
def M289 : Mi_ := (⟨"SpiritWall$Wall$Net", "layRises", "()V"⟩, prog_9_method_2_code, 5, (Option.none : Option Jvm.ClassFile.FieldType), [], 8)
/- N.iterator ()Ljava/util/Iterator; -/
def K290_0 (E : En_) : List Ii_ := [I_new 7 [.int 0, .null], I_dup, I_aload 0, I_calli 270 [1, 1] no_, I_aret]
def M290 : Mi_ := (⟨"SpiritWall$Wall$Net", "iterator", "()Ljava/util/Iterator;"⟩, prog_9_method_3_code, 1, (Option.some (Jvm.ClassFile.FieldType.object "java/util/Iterator")), [], 3)
/- N.layForest ()V -/
def K291_0 (E : En_) : List Ii_ := [I_new 11 [.int 0, .null, .int 0], I_dup, I_calli 25 [1] no_, I_astore 1, I_aload 0, I_callv [(6, 290)] [1] no_, I_astore 2, I_goto 1]
def K291_1 (E : En_) : List Ii_ := [I_mask [true, true, true, false, false, false, false], I_aload 2, I_callv [(7, 266), (12, 47)] [1] no_, I_ifeq 4, I_aload 2, I_callv [(7, 267), (12, 48)] [1] no_, I_cast [17] [], I_callv [(17, 43)] [1] no_, I_istore 3, I_aload 1, I_callv [(11, 26), (18, 11)] [1] no_, I_istore 4, I_goto 2]
def K291_2 (E : En_) : List Ii_ := [I_mask [true, true, true, true, true, false, false], I_iload 4, I_ifle 3, I_aload 0, I_aload 1, I_iload 4, I_push (1), I_isub, I_callv [(11, 27)] [0, 1] no_, I_cast [17] [], I_callv [(17, 43)] [1] no_, I_callv [(6, 292)] [0, 1] no_, I_aload 0, I_iload 3, I_callv [(6, 292)] [0, 1] no_, I_icle 3, I_iinc 4 (-1), I_goto 2]
def K291_3 (E : En_) : List Ii_ := [I_mask [true, true, true, true, true, false, false], I_aload 1, I_iload 4, I_iload 3, I_call 44 [0] no_, I_callv [(11, 35)] [1, 0, 1] no_, I_goto 1]
def K291_4 (E : En_) : List Ii_ := [I_mask [true, true, false, false, false, false, false], I_push (0), I_istore 2, I_goto 5]
def K291_5 (E : En_) : List Ii_ := [I_mask [true, true, true, false, false, false, false], I_iload 2, I_aload 0, I_getf [(6, 4)], I_alen, I_icge 6, I_aload 0, I_getf [(6, 4)], I_iload 2, I_iload 2, I_iast, I_iinc 2 (1), I_goto 5]
def K291_6 (E : En_) : List Ii_ := [I_mask [true, true, false, false, false, false, false], I_push (0), I_istore 2, I_goto 7]
def K291_7 (E : En_) : List Ii_ := [I_mask [true, true, true, false, false, false, false], I_iload 2, I_aload 1, I_callv [(11, 26), (18, 11)] [1] no_, I_icge 13, I_aload 1, I_iload 2, I_callv [(11, 27)] [0, 1] no_, I_cast [17] [], I_callv [(17, 43)] [1] no_, I_istore 3, I_aload 0, I_getf [(6, 4)], I_iload 3, I_push (12), I_idiv, I_iald, I_istore 4, I_aload 0, I_getf [(6, 4)], I_iload 3, I_push (12), I_irem, I_iald, I_istore 5, I_iload 4, I_iload 5, I_icne 8, I_goto 12]
def K291_8 (E : En_) : List Ii_ := [I_mask [true, true, true, true, true, true, false], I_aload 0, I_getf [(6, 5)], I_iload 3, I_push (1), I_bast, I_push (0), I_istore 6, I_goto 9]
def K291_9 (E : En_) : List Ii_ := [I_mask [true, true, true, false], I_iload 6, I_aload 0, I_getf [(6, 4)], I_alen, I_icge 12, I_aload 0, I_getf [(6, 4)], I_iload 6, I_iald, I_iload 4, I_iceq 10, I_aload 0, I_getf [(6, 4)], I_iload 6, I_iald, I_iload 5, I_icne 11, I_goto 10]
def K291_10 (E : En_) : List Ii_ := [I_mask [true, true, true, false], I_aload 0, I_getf [(6, 4)], I_iload 6, I_iload 4, I_iload 5, I_min, I_iast, I_goto 11]
def K291_11 (E : En_) : List Ii_ := [I_mask [true, true, true, false], I_iinc 6 (1), I_goto 9]
def K291_12 (E : En_) : List Ii_ := [I_mask [true, true, true, false, false, false, false], I_iinc 2 (1), I_goto 7]
def K291_13 (E : En_) : List Ii_ := [I_mask [false, false, false, false, false, false, false], I_vret]
def M291 : Mi_ := (⟨"SpiritWall$Wall$Net", "layForest", "()V"⟩, prog_9_method_9_code, 7, (Option.none : Option Jvm.ClassFile.FieldType), [], 6)
/- N.far (I)I -/
def K292_0 (E : En_) : List Ii_ := [I_aload 0, I_getf [(6, 12)], I_iload 1, I_push (12), I_idiv, I_iload 1, I_push (12), I_irem, I_callv [(1, 278)] [0, 0, 1] no_, I_iret]
def M292 : Mi_ := (⟨"SpiritWall$Wall$Net", "far", "(I)I"⟩, prog_9_method_6_code, 2, (Option.some Jvm.ClassFile.FieldType.int), [], 5)
/- N.layDepths ()V -/
def K293_0 (E : En_) : List Ii_ := [I_push (0), I_istore 1, I_goto 1]
def K293_1 (E : En_) : List Ii_ := [I_mask [true, true, false], I_iload 1, I_push (12), I_icge 4, I_aload 0, I_getf [(6, 8)], I_iload 1, I_push (-1), I_iast, I_aload 0, I_getf [(6, 9)], I_iload 1, I_aload 0, I_getf [(6, 4)], I_iload 1, I_iald, I_iload 1, I_icne 2, I_push (0), I_goto 3]
def K293_2 (E : En_) : List Ii_ := [I_mask [true, true, false], I_push (-1), I_goto 3]
def K293_3 (E : En_) : List Ii_ := [I_mask [true, true, false], I_iast, I_iinc 1 (1), I_goto 1]
def K293_4 (E : En_) : List Ii_ := [I_mask [true, false, false], I_push (1), I_istore 1, I_goto 5]
def K293_5 (E : En_) : List Ii_ := [I_mask [true, true, false], I_iload 1, I_ifeq 10, I_push (0), I_istore 1, I_push (0), I_istore 2, I_goto 6]
def K293_6 (E : En_) : List Ii_ := [I_iload 2, I_aload 0, I_getf [(6, 5)], I_alen, I_icge 9, I_aload 0, I_getf [(6, 5)], I_iload 2, I_bald, I_ifeq 8, I_aload 0, I_iload 2, I_push (12), I_idiv, I_iload 2, I_push (12), I_irem, I_callv [(6, 294)] [0, 0, 1] no_, I_ifne 7, I_aload 0, I_iload 2, I_push (12), I_irem, I_iload 2, I_push (12), I_idiv, I_callv [(6, 294)] [0, 0, 1] no_, I_ifeq 8, I_goto 7]
def K293_7 (E : En_) : List Ii_ := [I_mask [true, false], I_push (1), I_istore 1, I_goto 8]
def K293_8 (E : En_) : List Ii_ := [I_iinc 2 (1), I_goto 6]
def K293_9 (E : En_) : List Ii_ := [I_mask [true, true, false], I_goto 5]
def K293_10 (E : En_) : List Ii_ := [I_mask [false, false, false], I_vret]
def M293 : Mi_ := (⟨"SpiritWall$Wall$Net", "layDepths", "()V"⟩, prog_9_method_12_code, 3, (Option.none : Option Jvm.ClassFile.FieldType), [], 2)
/- N.hangs (II)Z -/
def K294_0 (E : En_) : List Ii_ := [I_aload 0, I_getf [(6, 9)], I_iload 1, I_iald, I_push (-1), I_icne 1, I_aload 0, I_getf [(6, 9)], I_iload 2, I_iald, I_push (-1), I_icne 2, I_goto 1]
def K294_1 (E : En_) : List Ii_ := [I_mask [false, false, false], I_push (0), I_nret .boolean]
def K294_2 (E : En_) : List Ii_ := [I_aload 0, I_getf [(6, 8)], I_iload 1, I_iload 2, I_iast, I_aload 0, I_getf [(6, 9)], I_iload 1, I_aload 0, I_getf [(6, 9)], I_iload 2, I_iald, I_push (1), I_iadd, I_iast, I_push (1), I_nret .boolean]
def M294 : Mi_ := (⟨"SpiritWall$Wall$Net", "hangs", "(II)Z"⟩, prog_9_method_13_code, 3, (Option.some Jvm.ClassFile.FieldType.boolean), [], 1)
/- N.loopOf (I)LSpiritWall$Loop; -/
def K295_0 (E : En_) : List Ii_ := [I_aload 0, I_iload 1, I_push (12), I_irem, I_iload 1, I_push (12), I_idiv, I_callv [(6, 296)] [0, 0, 1] no_, I_aload 0, I_getf [(6, 11)], I_newa 0, I_astore 2, I_aload 0, I_getf [(6, 1)], I_iload 1, I_iald, I_istore 3, I_aload 0, I_iload 1, I_callv [(6, 292)] [0, 1] no_, I_istore 4, I_aload 2, I_push (0), I_iload 1, I_push (12), I_idiv, I_iast, I_push (1), I_istore 5, I_goto 1]
def K295_1 (E : En_) : List Ii_ := [I_mask [true, false], I_iload 5, I_aload 0, I_getf [(6, 11)], I_icge 2, I_aload 2, I_iload 5, I_aload 0, I_getf [(6, 10)], I_iload 5, I_push (1), I_isub, I_iald, I_iast, I_iload 3, I_aload 0, I_aload 0, I_getf [(6, 10)], I_iload 5, I_push (1), I_isub, I_iald, I_aload 0, I_getf [(6, 10)], I_iload 5, I_iald, I_callv [(6, 297)] [0, 0, 1] no_, I_iadd, I_istore 3, I_iload 4, I_aload 0, I_getf [(6, 12)], I_aload 0, I_getf [(6, 10)], I_iload 5, I_push (1), I_isub, I_iald, I_aload 0, I_getf [(6, 10)], I_iload 5, I_iald, I_callv [(1, 278)] [0, 0, 1] no_, I_iadd, I_istore 4, I_iinc 5 (1), I_goto 1]
def K295_2 (E : En_) : List Ii_ := [I_mask [false, false, true, true, true, false], I_new 4 [.null, .int 0, .int 0], I_dup, I_aload 2, I_iload 3, I_iload 4, I_calli 258 [0, 0, 1, 1] no_, I_aret]
def M295 : Mi_ := (⟨"SpiritWall$Wall$Net", "loopOf", "(I)LSpiritWall$Loop;"⟩, prog_9_method_16_code, 6, (Option.some (Jvm.ClassFile.FieldType.object "SpiritWall$Loop")), [], 6)
/- N.layWay (II)V -/
def K296_0 (E : En_) : List Ii_ := [I_iload 1, I_istore 3, I_iload 2, I_istore 4, I_push (12), I_istore 5, I_aload 0, I_push (0), I_putf [(6, 11)] (.int), I_goto 1]
def K296_1 (E : En_) : List Ii_ := [I_mask [true, false, false], I_iload 3, I_iload 4, I_iceq 3, I_aload 0, I_getf [(6, 9)], I_iload 3, I_iald, I_aload 0, I_getf [(6, 9)], I_iload 4, I_iald, I_iclt 2, I_aload 0, I_getf [(6, 10)], I_aload 0, I_getf [(6, 11)], I_iload 3, I_iast, I_aload 0, I_dup, I_getf [(6, 11)], I_push (1), I_iadd, I_putf [(6, 11)] (.int), I_aload 0, I_getf [(6, 8)], I_iload 3, I_iald, I_istore 3, I_goto 1]
def K296_2 (E : En_) : List Ii_ := [I_mask [true, false, false], I_iinc 5 (-1), I_aload 0, I_getf [(6, 10)], I_iload 5, I_iload 4, I_iast, I_aload 0, I_getf [(6, 8)], I_iload 4, I_iald, I_istore 4, I_goto 1]
def K296_3 (E : En_) : List Ii_ := [I_mask [true, false, false, true, false], I_aload 0, I_getf [(6, 10)], I_aload 0, I_getf [(6, 11)], I_iload 3, I_iast, I_aload 0, I_dup, I_getf [(6, 11)], I_push (1), I_iadd, I_putf [(6, 11)] (.int), I_goto 4]
def K296_4 (E : En_) : List Ii_ := [I_mask [true, false, false, false, false], I_iload 5, I_push (12), I_icge 5, I_aload 0, I_getf [(6, 10)], I_aload 0, I_getf [(6, 11)], I_aload 0, I_getf [(6, 10)], I_iload 5, I_iald, I_iast, I_aload 0, I_dup, I_getf [(6, 11)], I_push (1), I_iadd, I_putf [(6, 11)] (.int), I_iinc 5 (1), I_goto 4]
def K296_5 (E : En_) : List Ii_ := [I_mask [false, false, false, false, false, false], I_vret]
def M296 : Mi_ := (⟨"SpiritWall$Wall$Net", "layWay", "(II)V"⟩, prog_9_method_14_code, 6, (Option.none : Option Jvm.ClassFile.FieldType), [], 1)
/- N.rise (II)I -/
def K297_0 (E : En_) : List Ii_ := [I_iload 1, I_iload 2, I_icge 1, I_aload 0, I_getf [(6, 1)], I_iload 1, I_iload 2, I_call 340 [0, 0] no_, I_iald, I_goto 2]
def K297_1 (E : En_) : List Ii_ := [I_aload 0, I_getf [(6, 1)], I_iload 1, I_iload 2, I_call 340 [0, 0] no_, I_iald, I_ineg, I_goto 2]
def K297_2 (E : En_) : List Ii_ := [I_mask [false, false, false], I_iret]
def M297 : Mi_ := (⟨"SpiritWall$Wall$Net", "rise", "(II)I"⟩, prog_9_method_8_code, 3, (Option.some Jvm.ClassFile.FieldType.int), [], 2)
/- N.edges ()I -/
def K298_0 (E : En_) : List Ii_ := [I_push (0), I_istore 1, I_aload 0, I_callv [(6, 290)] [1] no_, I_astore 2, I_goto 1]
def K298_1 (E : En_) : List Ii_ := [I_mask [true, true, true, false], I_aload 2, I_callv [(7, 266), (12, 47)] [1] no_, I_ifeq 4, I_aload 2, I_callv [(7, 267), (12, 48)] [1] no_, I_cast [17] [], I_callv [(17, 43)] [1] no_, I_istore 3, I_iload 1, I_aload 0, I_getf [(6, 0)], I_iload 3, I_iald, I_ifle 2, I_push (1), I_goto 3]
def K298_2 (E : En_) : List Ii_ := [I_mask [true, false, true, false], I_push (0), I_goto 3]
def K298_3 (E : En_) : List Ii_ := [I_mask [true, false, true, false], I_call 338 [0] no_, I_iadd, I_istore 1, I_goto 1]
def K298_4 (E : En_) : List Ii_ := [I_mask [false, true, false, false], I_iload 1, I_iret]
def M298 : Mi_ := (⟨"SpiritWall$Wall$Net", "edges", "()I"⟩, prog_9_method_4_code, 4, (Option.some Jvm.ClassFile.FieldType.int), [], 6)
/- N.forestCount ()I -/
def K299_0 (E : En_) : List Ii_ := [I_push (0), I_istore 1, I_aload 0, I_callv [(6, 290)] [1] no_, I_astore 2, I_goto 1]
def K299_1 (E : En_) : List Ii_ := [I_mask [true, true, true, false], I_aload 2, I_callv [(7, 266), (12, 47)] [1] no_, I_ifeq 2, I_aload 2, I_callv [(7, 267), (12, 48)] [1] no_, I_cast [17] [], I_callv [(17, 43)] [1] no_, I_istore 3, I_iload 1, I_aload 0, I_getf [(6, 5)], I_iload 3, I_bald, I_call 338 [0] no_, I_iadd, I_istore 1, I_goto 1]
def K299_2 (E : En_) : List Ii_ := [I_mask [false, true, false, false], I_iload 1, I_iret]
def M299 : Mi_ := (⟨"SpiritWall$Wall$Net", "forestCount", "()I"⟩, prog_9_method_11_code, 4, (Option.some Jvm.ClassFile.FieldType.int), [], 6)
/- N.closed ()I -/
def K300_0 (E : En_) : List Ii_ := [I_push (0), I_istore 1, I_push (0), I_istore 2, I_goto 1]
def K300_1 (E : En_) : List Ii_ := [I_iload 2, I_aload 0, I_getf [(6, 6)], I_callv [(11, 26), (18, 11)] [1] no_, I_icge 2, I_iload 1, I_aload 0, I_getf [(6, 6)], I_iload 2, I_callv [(11, 27)] [0, 1] no_, I_cast [4] [], I_aload 0, I_getf [(6, 12)], I_getf [(1, 2)], I_push (3), I_iald, I_callv [(4, 259)] [0, 1] no_, I_call 338 [0] no_, I_iadd, I_istore 1, I_iinc 2 (1), I_goto 1]
def K300_2 (E : En_) : List Ii_ := [I_mask [false, true, false], I_iload 1, I_iret]
def M300 : Mi_ := (⟨"SpiritWall$Wall$Net", "closed", "()I"⟩, prog_9_method_17_code, 3, (Option.some Jvm.ClassFile.FieldType.int), [], 4)
/- N.partCount ()I -/
def K301_0 (E : En_) : List Ii_ := [I_push (0), I_istore 1, I_push (0), I_istore 2, I_goto 1]
def K301_1 (E : En_) : List Ii_ := [I_iload 2, I_aload 0, I_getf [(6, 12)], I_getf [(1, 0)], I_callv [(11, 26), (18, 11)] [1] no_, I_icge 4, I_iload 1, I_aload 0, I_getf [(6, 4)], I_iload 2, I_iald, I_iload 2, I_icne 2, I_push (1), I_goto 3]
def K301_2 (E : En_) : List Ii_ := [I_mask [true, false], I_push (0), I_goto 3]
def K301_3 (E : En_) : List Ii_ := [I_mask [true, false], I_call 338 [0] no_, I_iadd, I_istore 1, I_iinc 2 (1), I_goto 1]
def K301_4 (E : En_) : List Ii_ := [I_mask [false, true, false], I_iload 1, I_iret]
def M301 : Mi_ := (⟨"SpiritWall$Wall$Net", "partCount", "()I"⟩, prog_9_method_10_code, 3, (Option.some Jvm.ClassFile.FieldType.int), [], 2)
/- N.suspect ()I -/
def K302_0 (E : En_) : List Ii_ := [I_push (-1), I_istore 1, I_push (0), I_istore 2, I_push (0), I_istore 3, I_aload 0, I_callv [(6, 290)] [1] no_, I_astore 4, I_goto 1]
def K302_1 (E : En_) : List Ii_ := [I_mask [true, true, true, true, true, false, false, false], I_aload 4, I_callv [(7, 266), (12, 47)] [1] no_, I_ifeq 3, I_aload 4, I_callv [(7, 267), (12, 48)] [1] no_, I_cast [17] [], I_callv [(17, 43)] [1] no_, I_istore 5, I_aload 0, I_iload 5, I_push (1), I_callv [(6, 303)] [0, 0, 1] no_, I_istore 6, I_aload 0, I_iload 5, I_push (0), I_callv [(6, 303)] [0, 0, 1] no_, I_iload 6, I_isub, I_istore 7, I_iload 6, I_iload 2, I_iclt 1, I_iload 6, I_ifeq 1, I_iload 6, I_iload 2, I_icne 2, I_iload 7, I_iload 3, I_iclt 2, I_goto 1]
def K302_2 (E : En_) : List Ii_ := [I_mask [true, false, false, false], I_iload 5, I_istore 1, I_iload 6, I_istore 2, I_iload 7, I_istore 3, I_goto 1]
def K302_3 (E : En_) : List Ii_ := [I_mask [false, true, false, false, false, false, false, false], I_iload 1, I_iret]
def M302 : Mi_ := (⟨"SpiritWall$Wall$Net", "suspect", "()I"⟩, prog_9_method_19_code, 8, (Option.some Jvm.ClassFile.FieldType.int), [], 6)
/- N.loopsWith (IZ)I -/
def K303_0 (E : En_) : List Ii_ := [I_push (0), I_istore 3, I_push (0), I_istore 4, I_goto 1]
def K303_1 (E : En_) : List Ii_ := [I_iload 4, I_aload 0, I_getf [(6, 6)], I_callv [(11, 26), (18, 11)] [1] no_, I_icge 5, I_iload 3, I_aload 0, I_getf [(6, 6)], I_iload 4, I_callv [(11, 27)] [0, 1] no_, I_cast [4] [], I_iload 1, I_callv [(4, 261)] [0, 1] no_, I_ifeq 3, I_iload 2, I_ifeq 2, I_aload 0, I_getf [(6, 6)], I_iload 4, I_callv [(11, 27)] [0, 1] no_, I_cast [4] [], I_aload 0, I_getf [(6, 12)], I_getf [(1, 2)], I_push (3), I_iald, I_callv [(4, 259)] [0, 1] no_, I_ifne 3, I_goto 2]
def K303_2 (E : En_) : List Ii_ := [I_mask [true, true, true, false], I_push (1), I_goto 4]
def K303_3 (E : En_) : List Ii_ := [I_mask [true, true, true, false], I_push (0), I_goto 4]
def K303_4 (E : En_) : List Ii_ := [I_mask [true, true, true, false], I_call 338 [0] no_, I_iadd, I_istore 3, I_iinc 4 (1), I_goto 1]
def K303_5 (E : En_) : List Ii_ := [I_mask [false, false, false, true, false], I_iload 3, I_iret]
def M303 : Mi_ := (⟨"SpiritWall$Wall$Net", "loopsWith", "(IZ)I"⟩, prog_9_method_18_code, 5, (Option.some Jvm.ClassFile.FieldType.int), [], 4)
/- N.off (LSpiritWall$Sight;)I -/
def K304_0 (E : En_) : List Ii_ := [I_aload 0, I_getf [(6, 12)], I_aload 1, I_aload 0, I_getf [(6, 7)], I_callv [(1, 284)] [0, 1, 1] no_, I_aload 0, I_aload 1, I_getf [(3, 0)], I_aload 1, I_getf [(3, 1)], I_callv [(6, 297)] [0, 0, 1] no_, I_isub, I_abs, I_iret]
def M304 : Mi_ := (⟨"SpiritWall$Wall$Net", "off", "(LSpiritWall$Sight;)I"⟩, prog_9_method_20_code, 2, (Option.some Jvm.ClassFile.FieldType.int), [], 8)
/- N.misfit ()J -/
def K305_0 (E : En_) : List Ii_ := [I_pushl (0), I_lstore 1, I_aload 0, I_callv [(6, 290)] [1] no_, I_astore 3, I_goto 1]
def K305_1 (E : En_) : List Ii_ := [I_mask [true, true, false, true, false, false, false, false, false], I_aload 3, I_callv [(7, 266), (12, 47)] [1] no_, I_ifeq 3, I_aload 3, I_callv [(7, 267), (12, 48)] [1] no_, I_cast [17] [], I_callv [(17, 43)] [1] no_, I_istore 4, I_aload 0, I_getf [(6, 12)], I_getf [(1, 0)], I_iload 4, I_push (12), I_idiv, I_callv [(11, 27)] [0, 1] no_, I_cast [2] [], I_astore 5, I_aload 0, I_getf [(6, 12)], I_getf [(1, 0)], I_iload 4, I_push (12), I_irem, I_callv [(11, 27)] [0, 1] no_, I_cast [2] [], I_astore 6, I_aload 5, I_callv [(2, 250)] [1] no_, I_ifeq 1, I_aload 6, I_callv [(2, 250)] [1] no_, I_ifne 2, I_goto 1]
def K305_2 (E : En_) : List Ii_ := [I_mask [true, true, false, true, true, true, true, false, false], I_aload 0, I_getf [(6, 1)], I_iload 4, I_iald, I_aload 6, I_getf [(2, 3)], I_aload 5, I_getf [(2, 3)], I_isub, I_isub, I_i2l, I_lstore 7, I_lload 1, I_lload 7, I_lload 7, I_lmul, I_ladd, I_lstore 1, I_goto 1]
def K305_3 (E : En_) : List Ii_ := [I_mask [false, true, false, false, false, false, false, false, false], I_lload 1, I_lret]
def M305 : Mi_ := (⟨"SpiritWall$Wall$Net", "misfit", "()J"⟩, prog_9_method_24_code, 9, (Option.some Jvm.ClassFile.FieldType.long), [], 6)
/- N.tension (I)I -/
def K306_0 (E : En_) : List Ii_ := [I_push (0), I_istore 2, I_push (0), I_istore 3, I_goto 1]
def K306_1 (E : En_) : List Ii_ := [I_iload 3, I_aload 0, I_getf [(6, 12)], I_getf [(1, 0)], I_callv [(11, 26), (18, 11)] [1] no_, I_icge 3, I_aload 0, I_iload 1, I_iload 3, I_callv [(6, 307)] [0, 0, 1] no_, I_ifeq 2, I_aload 0, I_getf [(6, 12)], I_getf [(1, 0)], I_iload 3, I_callv [(11, 27)] [0, 1] no_, I_cast [2] [], I_callv [(2, 250)] [1] no_, I_ifeq 2, I_iload 2, I_aload 0, I_getf [(6, 12)], I_getf [(1, 0)], I_iload 1, I_callv [(11, 27)] [0, 1] no_, I_cast [2] [], I_getf [(2, 3)], I_aload 0, I_getf [(6, 12)], I_getf [(1, 0)], I_iload 3, I_callv [(11, 27)] [0, 1] no_, I_cast [2] [], I_getf [(2, 3)], I_isub, I_aload 0, I_iload 3, I_iload 1, I_callv [(6, 297)] [0, 0, 1] no_, I_isub, I_abs, I_max, I_istore 2, I_goto 2]
def K306_2 (E : En_) : List Ii_ := [I_iinc 3 (1), I_goto 1]
def K306_3 (E : En_) : List Ii_ := [I_mask [false, false, true, false], I_iload 2, I_iret]
def M306 : Mi_ := (⟨"SpiritWall$Wall$Net", "tension", "(I)I"⟩, prog_9_method_25_code, 4, (Option.some Jvm.ClassFile.FieldType.int), [], 4)
/- N.isEdge (II)Z -/
def K307_0 (E : En_) : List Ii_ := [I_iload 1, I_iload 2, I_iceq 1, I_aload 0, I_getf [(6, 0)], I_iload 1, I_iload 2, I_call 340 [0, 0] no_, I_iald, I_ifle 1, I_push (1), I_goto 2]
def K307_1 (E : En_) : List Ii_ := [I_mask [false, false, false], I_push (0), I_goto 2]
def K307_2 (E : En_) : List Ii_ := [I_mask [false, false, false], I_nret .boolean]
def M307 : Mi_ := (⟨"SpiritWall$Wall$Net", "isEdge", "(II)Z"⟩, prog_9_method_5_code, 3, (Option.some Jvm.ClassFile.FieldType.boolean), [], 2)
/- N.level ()V -/
def K308_0 (E : En_) : List Ii_ := [I_push (12), I_newa 0, I_astore 1, I_aload 0, I_getf [(6, 12)], I_getf [(1, 0)], I_callv [(11, 29)] [1] no_, I_astore 2, I_goto 1]
def K308_1 (E : En_) : List Ii_ := [I_mask [true, true, true, false, false, false], I_aload 2, I_callv [(7, 266), (12, 47)] [1] no_, I_ifeq 3, I_aload 2, I_callv [(7, 267), (12, 48)] [1] no_, I_cast [2] [], I_astore 3, I_aload 3, I_getf [(2, 2)], I_ifne 2, I_aload 3, I_push (-10000000), I_putf [(2, 3)] (.int), I_goto 2]
def K308_2 (E : En_) : List Ii_ := [I_mask [true, true, true, false, false, false], I_goto 1]
def K308_3 (E : En_) : List Ii_ := [I_mask [true, true, false, false, false, false], I_push (-1), I_istore 2, I_push (-1), I_istore 3, I_push (0), I_istore 4, I_goto 4]
def K308_4 (E : En_) : List Ii_ := [I_mask [true, true, true, true, true, false], I_iload 4, I_aload 0, I_getf [(6, 12)], I_getf [(1, 0)], I_callv [(11, 26), (18, 11)] [1] no_, I_icge 10, I_push (0), I_istore 5, I_goto 5]
def K308_5 (E : En_) : List Ii_ := [I_iload 5, I_aload 0, I_getf [(6, 12)], I_getf [(1, 0)], I_callv [(11, 26), (18, 11)] [1] no_, I_icge 9, I_aload 0, I_getf [(6, 12)], I_getf [(1, 0)], I_iload 4, I_callv [(11, 27)] [0, 1] no_, I_cast [2] [], I_callv [(2, 250)] [1] no_, I_ifne 8, I_aload 0, I_getf [(6, 12)], I_getf [(1, 0)], I_iload 5, I_callv [(11, 27)] [0, 1] no_, I_cast [2] [], I_callv [(2, 250)] [1] no_, I_ifeq 8, I_aload 0, I_iload 4, I_iload 5, I_callv [(6, 307)] [0, 0, 1] no_, I_ifne 6, I_goto 8]
def K308_6 (E : En_) : List Ii_ := [I_iload 3, I_push (-1), I_iceq 7, I_aload 1, I_iload 5, I_iald, I_aload 0, I_getf [(6, 12)], I_iload 5, I_iload 4, I_callv [(1, 278)] [0, 0, 1] no_, I_iadd, I_aload 1, I_iload 2, I_iald, I_aload 0, I_getf [(6, 12)], I_iload 2, I_iload 3, I_callv [(1, 278)] [0, 0, 1] no_, I_iadd, I_iclt 7, I_goto 8]
def K308_7 (E : En_) : List Ii_ := [I_mask [true, true, false, false], I_iload 5, I_istore 2, I_iload 4, I_istore 3, I_goto 8]
def K308_8 (E : En_) : List Ii_ := [I_iinc 5 (1), I_goto 5]
def K308_9 (E : En_) : List Ii_ := [I_mask [true, true, true, true, true, false], I_iinc 4 (1), I_goto 4]
def K308_10 (E : En_) : List Ii_ := [I_mask [true, true, true, true, false, false], I_iload 3, I_push (-1), I_icne 11, I_vret]
def K308_11 (E : En_) : List Ii_ := [I_mask [true, true, true, true, false, false], I_aload 0, I_getf [(6, 12)], I_getf [(1, 0)], I_iload 3, I_callv [(11, 27)] [0, 1] no_, I_cast [2] [], I_aload 0, I_getf [(6, 12)], I_getf [(1, 0)], I_iload 2, I_callv [(11, 27)] [0, 1] no_, I_cast [2] [], I_getf [(2, 3)], I_aload 0, I_iload 2, I_iload 3, I_callv [(6, 297)] [0, 0, 1] no_, I_iadd, I_putf [(2, 3)] (.int), I_aload 1, I_iload 3, I_aload 1, I_iload 2, I_iald, I_aload 0, I_getf [(6, 12)], I_iload 2, I_iload 3, I_callv [(1, 278)] [0, 0, 1] no_, I_iadd, I_iast, I_goto 3]
def M308 : Mi_ := (⟨"SpiritWall$Wall$Net", "level", "()V"⟩, prog_9_method_21_code, 6, (Option.none : Option Jvm.ClassFile.FieldType), [], 6)
/- N.weight (I)I -/
def K309_0 (E : En_) : List Ii_ := [I_aload 0, I_getf [(6, 0)], I_iload 1, I_iald, I_push (1000000), I_aload 0, I_iload 1, I_callv [(6, 292)] [0, 1] no_, I_idiv, I_imul, I_iret]
def M309 : Mi_ := (⟨"SpiritWall$Wall$Net", "weight", "(I)I"⟩, prog_9_method_7_code, 2, (Option.some Jvm.ClassFile.FieldType.int), [], 6)
/- N.along (II)I -/
def K310_0 (E : En_) : List Ii_ := [I_aload 0, I_getf [(6, 4)], I_iload 1, I_iald, I_aload 0, I_getf [(6, 4)], I_iload 2, I_iald, I_iceq 1, I_push (-10000000), I_iret]
def K310_1 (E : En_) : List Ii_ := [I_mask [true, true, true, false, false], I_aload 0, I_iload 1, I_iload 2, I_callv [(6, 296)] [0, 0, 1] no_, I_push (0), I_istore 3, I_push (1), I_istore 4, I_goto 2]
def K310_2 (E : En_) : List Ii_ := [I_mask [true, false, false], I_iload 4, I_aload 0, I_getf [(6, 11)], I_icge 3, I_iload 3, I_aload 0, I_aload 0, I_getf [(6, 10)], I_iload 4, I_push (1), I_isub, I_iald, I_aload 0, I_getf [(6, 10)], I_iload 4, I_iald, I_callv [(6, 297)] [0, 0, 1] no_, I_iadd, I_istore 3, I_iinc 4 (1), I_goto 2]
def K310_3 (E : En_) : List Ii_ := [I_mask [false, false, false, true, false], I_iload 3, I_iret]
def M310 : Mi_ := (⟨"SpiritWall$Wall$Net", "along", "(II)I"⟩, prog_9_method_15_code, 5, (Option.some Jvm.ClassFile.FieldType.int), [], 3)
/- N.relax (I)I -/
def K311_0 (E : En_) : List Ii_ := [I_push (0), I_istore 2, I_push (1), I_istore 3, I_goto 1]
def K311_1 (E : En_) : List Ii_ := [I_mask [true, true, true, true, false], I_iload 2, I_iload 1, I_icge 5, I_iload 3, I_ifeq 5, I_push (0), I_istore 3, I_push (0), I_istore 4, I_goto 2]
def K311_2 (E : En_) : List Ii_ := [I_iload 4, I_aload 0, I_getf [(6, 12)], I_getf [(1, 0)], I_callv [(11, 26), (18, 11)] [1] no_, I_icge 4, I_aload 0, I_iload 4, I_callv [(6, 312)] [0, 1] no_, I_ifeq 3, I_push (1), I_istore 3, I_goto 3]
def K311_3 (E : En_) : List Ii_ := [I_iinc 4 (1), I_goto 2]
def K311_4 (E : En_) : List Ii_ := [I_mask [true, true, true, true, false], I_iload 2, I_iload 3, I_call 338 [0] no_, I_iadd, I_istore 2, I_goto 1]
def K311_5 (E : En_) : List Ii_ := [I_mask [false, false, true, false, false], I_iload 2, I_iret]
def M311 : Mi_ := (⟨"SpiritWall$Wall$Net", "relax", "(I)I"⟩, prog_9_method_23_code, 5, (Option.some Jvm.ClassFile.FieldType.int), [], 8)
/- N.settles (I)Z -/
def K312_0 (E : En_) : List Ii_ := [I_aload 0, I_getf [(6, 12)], I_getf [(1, 0)], I_iload 1, I_callv [(11, 27)] [0, 1] no_, I_cast [2] [], I_astore 2, I_aload 2, I_getf [(2, 2)], I_ifne 1, I_aload 2, I_callv [(2, 250)] [1] no_, I_ifne 2, I_goto 1]
def K312_1 (E : En_) : List Ii_ := [I_mask [false, false, false, false, false, false, false, false, false], I_push (0), I_nret .boolean]
def K312_2 (E : En_) : List Ii_ := [I_mask [true, true, true, false, false, false, false, false, false], I_pushl (0), I_lstore 3, I_pushl (0), I_lstore 5, I_push (0), I_istore 7, I_goto 3]
def K312_3 (E : En_) : List Ii_ := [I_mask [true, true, true, true, false, true, false, true, false], I_iload 7, I_aload 0, I_getf [(6, 12)], I_getf [(1, 0)], I_callv [(11, 26), (18, 11)] [1] no_, I_icge 6, I_aload 0, I_iload 1, I_iload 7, I_callv [(6, 307)] [0, 0, 1] no_, I_ifeq 5, I_aload 0, I_getf [(6, 12)], I_getf [(1, 0)], I_iload 7, I_callv [(11, 27)] [0, 1] no_, I_cast [2] [], I_callv [(2, 250)] [1] no_, I_ifne 4, I_goto 5]
def K312_4 (E : En_) : List Ii_ := [I_mask [true, true, true, true, false, true, false, true, false], I_aload 0, I_iload 1, I_iload 7, I_call 340 [0, 0] no_, I_callv [(6, 309)] [0, 1] no_, I_istore 8, I_lload 3, I_iload 8, I_i2l, I_aload 0, I_getf [(6, 12)], I_getf [(1, 0)], I_iload 7, I_callv [(11, 27)] [0, 1] no_, I_cast [2] [], I_getf [(2, 3)], I_aload 0, I_iload 7, I_iload 1, I_callv [(6, 297)] [0, 0, 1] no_, I_iadd, I_i2l, I_lmul, I_ladd, I_lstore 3, I_lload 5, I_iload 8, I_i2l, I_ladd, I_lstore 5, I_goto 5]
def K312_5 (E : En_) : List Ii_ := [I_mask [true, true, true, true, false, true, false, true, false], I_iinc 7 (1), I_goto 3]
def K312_6 (E : En_) : List Ii_ := [I_mask [false, false, true, true, false, true, false, false, false], I_lload 5, I_pushl (0), I_lcmp, I_ifne 7, I_push (0), I_nret .boolean]
def K312_7 (E : En_) : List Ii_ := [I_mask [false, false, true, true, false, true, false, false, false], I_lload 3, I_lload 5, I_call 14 [2, 2] no_, I_l2i, I_istore 7, I_iload 7, I_aload 2, I_getf [(2, 3)], I_iceq 8, I_push (1), I_goto 9]
def K312_8 (E : En_) : List Ii_ := [I_mask [false, false, true, false, false, false, false, true, false], I_push (0), I_goto 9]
def K312_9 (E : En_) : List Ii_ := [I_mask [false, false, true, false, false, false, false, true, false], I_istore 8, I_aload 2, I_iload 7, I_putf [(2, 3)] (.int), I_iload 8, I_nret .boolean]
def M312 : Mi_ := (⟨"SpiritWall$Wall$Net", "settles", "(I)Z"⟩, prog_9_method_22_code, 9, (Option.some Jvm.ClassFile.FieldType.boolean), [], 7)
/- P.init (LSpiritWall;)V -/
def K313_0 (E : En_) : List Ii_ := [I_aload 0, I_aload 1, I_putf [(5, 10)] (.object "SpiritWall"), I_aload 0, I_obj, I_aload 0, I_val (.ref (E.2.2.2.2.1 5)), I_val (.ref (E.2.2.2.2.1 6)), I_val (.ref (E.2.2.2.2.1 7)), I_val (.ref (E.2.2.2.2.1 8)), I_val (.ref (E.2.2.2.2.1 9)), I_call 91 [1, 1, 1, 1, 1] no_, I_putf [(5, 0)] (.object "java/util/List"), I_aload 0, I_val (.ref (E.2.2.2.2.1 10)), I_val (.ref (E.2.2.2.2.1 11)), I_val (.ref (E.2.2.2.2.1 12)), I_val (.ref (E.2.2.2.2.1 13)), I_val (.ref (E.2.2.2.2.1 14)), I_val (.ref (E.2.2.2.2.1 15)), I_call 92 [1, 1, 1, 1, 1, 1] no_, I_putf [(5, 1)] (.object "java/util/List"), I_aload 0, I_new 1 [.null, .null, .null, .int 0, .int 0], I_dup, I_calli 271 [1] no_, I_putf [(5, 2)] (.object "SpiritWall$Wall"), I_aload 0, I_push (5), I_newa 2, I_putf [(5, 3)] (.array .boolean), I_aload 0, I_val (.ref (E.2.2.2.2.1 16)), I_putf [(5, 9)] (.object "java/lang/String"), I_vret]
def M313 : Mi_ := (⟨"SpiritWall$Parser", "<init>", "(LSpiritWall;)V"⟩, prog_5_method_1_code, 2, (Option.none : Option Jvm.ClassFile.FieldType), [], 7)
/- P.parse ()LSpiritWall$Wall; -/
def K314_0 (E : En_) : List Ii_ := [I_aload 0, I_callv [(5, 315)] [1] no_, I_goto 1]
def K314_1 (E : En_) : List Ii_ := [I_aload 0, I_getf [(5, 6)], I_ifeq 7, I_aload 0, I_aload 0, I_getf [(5, 6)], I_push (1), I_icne 2, I_push (1), I_goto 3]
def K314_2 (E : En_) : List Ii_ := [I_push (0), I_goto 3]
def K314_3 (E : En_) : List Ii_ := [I_push (1), I_callv [(5, 317)] [0, 0, 1] no_, I_aload 0, I_val (.ref (E.2.2.2.2.1 10)), I_callv [(5, 318)] [1, 1] no_, I_ifeq 4, I_aload 0, I_callv [(5, 319)] [1] no_, I_goto 6]
def K314_4 (E : En_) : List Ii_ := [I_aload 0, I_val (.ref (E.2.2.2.2.1 11)), I_callv [(5, 318)] [1, 1] no_, I_ifeq 5, I_aload 0, I_callv [(5, 326)] [1] no_, I_goto 6]
def K314_5 (E : En_) : List Ii_ := [I_aload 0, I_callv [(5, 328)] [1] no_, I_goto 6]
def K314_6 (E : En_) : List Ii_ := [I_aload 0, I_aload 0, I_push (59), I_callv [(5, 324)] [0, 1] no_, I_push (1), I_callv [(5, 317)] [0, 0, 1] no_, I_aload 0, I_callv [(5, 315)] [1] no_, I_goto 1]
def K314_7 (E : En_) : List Ii_ := [I_aload 0, I_getf [(5, 2)], I_aret]
def M314 : Mi_ := (⟨"SpiritWall$Parser", "parse", "()LSpiritWall$Wall;"⟩, prog_5_method_16_code, 1, (Option.some (Jvm.ClassFile.FieldType.object "SpiritWall$Wall")), [], 11)
/- P.advance ()V -/
def K315_0 (E : En_) : List Ii_ := [I_aload 0, I_aload 0, I_getf [(5, 4)], I_callv [(5, 316)] [0, 1] no_, I_push (32), I_iceq 1, I_aload 0, I_aload 0, I_getf [(5, 4)], I_callv [(5, 316)] [0, 1] no_, I_push (10), I_icne 2, I_goto 1]
def K315_1 (E : En_) : List Ii_ := [I_mask [true, false, false], I_aload 0, I_dup, I_getf [(5, 4)], I_push (1), I_iadd, I_putf [(5, 4)] (.int), I_goto 0]
def K315_2 (E : En_) : List Ii_ := [I_mask [true, false, false], I_aload 0, I_aload 0, I_getf [(5, 4)], I_putf [(5, 5)] (.int), I_aload 0, I_aload 0, I_getf [(5, 4)], I_callv [(5, 316)] [0, 1] no_, I_istore 1, I_aload 0, I_val (.ref (E.2.2.2.2.1 16)), I_putf [(5, 9)] (.object "java/lang/String"), I_aload 0, I_push (0), I_putf [(5, 7)] (.int), I_iload 1, I_push (-1), I_icne 3, I_aload 0, I_push (0), I_putf [(5, 6)] (.int), I_goto 16]
def K315_3 (E : En_) : List Ii_ := [I_mask [true, true, false], I_iload 1, I_push (97), I_push (122), I_call 333 [0, 0, 0] no_, I_ifeq 6, I_new 15 [.null, .int 0, .int 0, .int 0], I_dup, I_calli 74 [1] no_, I_astore 2, I_goto 4]
def K315_4 (E : En_) : List Ii_ := [I_mask [true, false], I_aload 0, I_aload 0, I_getf [(5, 4)], I_callv [(5, 316)] [0, 1] no_, I_push (97), I_push (122), I_call 333 [0, 0, 0] no_, I_ifeq 5, I_aload 2, I_aload 0, I_aload 0, I_getf [(5, 4)], I_callv [(5, 316)] [0, 1] no_, I_i2c, I_callv [(15, 75)] [0, 1] no_, I_pop, I_aload 0, I_dup, I_getf [(5, 4)], I_push (1), I_iadd, I_putf [(5, 4)] (.int), I_goto 4]
def K315_5 (E : En_) : List Ii_ := [I_mask [true, false], I_aload 0, I_aload 2, I_callv [(15, 76)] [1] no_, I_putf [(5, 9)] (.object "java/lang/String"), I_aload 0, I_push (1), I_putf [(5, 6)] (.int), I_goto 16]
def K315_6 (E : En_) : List Ii_ := [I_mask [true, true, false], I_iload 1, I_push (48), I_push (57), I_call 333 [0, 0, 0] no_, I_ifeq 12, I_goto 7]
def K315_7 (E : En_) : List Ii_ := [I_mask [true, false, false], I_aload 0, I_aload 0, I_getf [(5, 4)], I_callv [(5, 316)] [0, 1] no_, I_push (48), I_push (57), I_call 333 [0, 0, 0] no_, I_ifeq 9, I_aload 0, I_getf [(5, 4)], I_aload 0, I_getf [(5, 5)], I_isub, I_push (5), I_icge 8, I_aload 0, I_push (10), I_aload 0, I_getf [(5, 7)], I_imul, I_aload 0, I_aload 0, I_getf [(5, 4)], I_callv [(5, 316)] [0, 1] no_, I_iadd, I_push (48), I_isub, I_putf [(5, 7)] (.int), I_goto 8]
def K315_8 (E : En_) : List Ii_ := [I_mask [true, false, false], I_aload 0, I_dup, I_getf [(5, 4)], I_push (1), I_iadd, I_putf [(5, 4)] (.int), I_goto 7]
def K315_9 (E : En_) : List Ii_ := [I_mask [true, false, false], I_aload 0, I_aload 0, I_getf [(5, 4)], I_aload 0, I_getf [(5, 5)], I_isub, I_push (5), I_icle 10, I_push (4), I_goto 11]
def K315_10 (E : En_) : List Ii_ := [I_mask [false, false, false], I_push (2), I_goto 11]
def K315_11 (E : En_) : List Ii_ := [I_mask [false, false, false], I_putf [(5, 6)] (.int), I_goto 16]
def K315_12 (E : En_) : List Ii_ := [I_mask [true, true, false], I_aload 0, I_iload 1, I_push (59), I_iceq 13, I_iload 1, I_push (45), I_icne 14, I_goto 13]
def K315_13 (E : En_) : List Ii_ := [I_mask [true, true, false], I_push (3), I_goto 15]
def K315_14 (E : En_) : List Ii_ := [I_mask [true, true, false], I_push (4), I_goto 15]
def K315_15 (E : En_) : List Ii_ := [I_mask [true, true, false], I_putf [(5, 6)] (.int), I_aload 0, I_iload 1, I_putf [(5, 8)] (.int), I_aload 0, I_dup, I_getf [(5, 4)], I_push (1), I_iadd, I_putf [(5, 4)] (.int), I_goto 16]
def K315_16 (E : En_) : List Ii_ := [I_mask [false, false, false], I_vret]
def M315 : Mi_ := (⟨"SpiritWall$Parser", "advance", "()V"⟩, prog_5_method_3_code, 3, (Option.none : Option Jvm.ClassFile.FieldType), [], 7)
/- P.byteAt (I)I -/
def K316_0 (E : En_) : List Ii_ := [I_iload 1, I_aload 0, I_getf [(5, 10)], I_getf [(0, 4)], I_icge 1, I_aload 0, I_getf [(5, 10)], I_getf [(0, 3)], I_iload 1, I_bald, I_push (255), I_iand, I_goto 2]
def K316_1 (E : En_) : List Ii_ := [I_mask [false, false], I_push (-1), I_goto 2]
def K316_2 (E : En_) : List Ii_ := [I_mask [false, false], I_iret]
def M316 : Mi_ := (⟨"SpiritWall$Parser", "byteAt", "(I)I"⟩, prog_5_method_2_code, 2, (Option.some Jvm.ClassFile.FieldType.int), [], 1)
/- P.require (ZI)V -/
def K317_0 (E : En_) : List Ii_ := [I_iload 1, I_ifne 1, I_new 9 [.null, .null, .null, .null, .null, .int 0, .int 0, .int 0], I_dup, I_iload 2, I_aload 0, I_getf [(5, 5)], I_calli 262 [0, 0, 1] no_, I_throw no_]
def K317_1 (E : En_) : List Ii_ := [I_mask [false, false, false], I_vret]
def M317 : Mi_ := (⟨"SpiritWall$Parser", "require", "(ZI)V"⟩, prog_5_method_4_code, 3, (Option.none : Option Jvm.ClassFile.FieldType), [], 4)
/- P.is (Ljava/lang/String;)Z -/
def K318_0 (E : En_) : List Ii_ := [I_aload 0, I_getf [(5, 6)], I_push (1), I_icne 1, I_aload 0, I_getf [(5, 9)], I_aload 1, I_callv [(16, 88)] [1, 1] no_, I_ifeq 1, I_push (1), I_goto 2]
def K318_1 (E : En_) : List Ii_ := [I_mask [false, false], I_push (0), I_goto 2]
def K318_2 (E : En_) : List Ii_ := [I_mask [false, false], I_nret .boolean]
def M318 : Mi_ := (⟨"SpiritWall$Parser", "is", "(Ljava/lang/String;)Z"⟩, prog_5_method_5_code, 2, (Option.some Jvm.ClassFile.FieldType.boolean), [], 3)
/- P.readMark ()V -/
def K319_0 (E : En_) : List Ii_ := [I_aload 0, I_aload 0, I_getf [(5, 2)], I_getf [(1, 0)], I_callv [(11, 26), (18, 11)] [1] no_, I_push (12), I_icge 1, I_push (1), I_goto 2]
def K319_1 (E : En_) : List Ii_ := [I_mask [true, false, false], I_push (0), I_goto 2]
def K319_2 (E : En_) : List Ii_ := [I_mask [true, false, false], I_push (5), I_callv [(5, 317)] [0, 0, 1] no_, I_aload 0, I_callv [(5, 315)] [1] no_, I_aload 0, I_callv [(5, 320)] [1] no_, I_aload 0, I_aload 0, I_getf [(5, 2)], I_aload 0, I_getf [(5, 9)], I_callv [(1, 272)] [1, 1] no_, I_push (-1), I_icne 3, I_push (1), I_goto 4]
def K319_3 (E : En_) : List Ii_ := [I_mask [true, false, false], I_push (0), I_goto 4]
def K319_4 (E : En_) : List Ii_ := [I_mask [true, false, false], I_push (3), I_callv [(5, 317)] [0, 0, 1] no_, I_aload 0, I_getf [(5, 9)], I_astore 1, I_aload 0, I_callv [(5, 315)] [1] no_, I_aload 0, I_push (0), I_push (99999), I_callv [(5, 321)] [0, 0, 1] no_, I_aload 0, I_aload 0, I_aload 0, I_getf [(5, 7)], I_callv [(5, 322)] [0, 1] no_, I_ifne 5, I_push (1), I_goto 6]
def K319_5 (E : En_) : List Ii_ := [I_mask [true, true, false], I_push (0), I_goto 6]
def K319_6 (E : En_) : List Ii_ := [I_mask [true, true, false], I_push (3), I_callv [(5, 317)] [0, 0, 1] no_, I_new 2 [.null, .int 0, .int 0, .int 0], I_dup, I_aload 1, I_aload 0, I_getf [(5, 7)], I_calli 248 [0, 1, 1] no_, I_astore 2, I_aload 0, I_callv [(5, 315)] [1] no_, I_aload 0, I_val (.ref (E.2.2.2.2.1 12)), I_callv [(5, 318)] [1, 1] no_, I_ifeq 7, I_aload 0, I_callv [(5, 315)] [1] no_, I_aload 2, I_aload 0, I_push (-99999), I_push (99999), I_callv [(5, 323)] [0, 0, 1] no_, I_callv [(2, 249)] [0, 1] no_, I_goto 7]
def K319_7 (E : En_) : List Ii_ := [I_mask [true, false], I_aload 0, I_getf [(5, 2)], I_getf [(1, 0)], I_aload 2, I_callv [(11, 31)] [1, 1] no_, I_pop, I_vret]
def M319 : Mi_ := (⟨"SpiritWall$Parser", "readMark", "()V"⟩, prog_5_method_12_code, 3, (Option.none : Option Jvm.ClassFile.FieldType), [], 10)
/- P.requireName ()V -/
def K320_0 (E : En_) : List Ii_ := [I_aload 0, I_aload 0, I_getf [(5, 6)], I_push (1), I_icne 1, I_aload 0, I_getf [(5, 9)], I_callv [(16, 85)] [1] no_, I_push (6), I_icgt 1, I_aload 0, I_getf [(5, 0)], I_aload 0, I_getf [(5, 9)], I_callv [(18, 9)] [1, 1] no_, I_ifne 1, I_aload 0, I_getf [(5, 1)], I_aload 0, I_getf [(5, 9)], I_callv [(18, 9)] [1, 1] no_, I_ifne 1, I_push (1), I_goto 2]
def K320_1 (E : En_) : List Ii_ := [I_mask [false], I_push (0), I_goto 2]
def K320_2 (E : En_) : List Ii_ := [I_mask [false], I_push (1), I_callv [(5, 317)] [0, 0, 1] no_, I_vret]
def M320 : Mi_ := (⟨"SpiritWall$Parser", "requireName", "()V"⟩, prog_5_method_10_code, 1, (Option.none : Option Jvm.ClassFile.FieldType), [], 6)
/- P.requireNumber (II)V -/
def K321_0 (E : En_) : List Ii_ := [I_aload 0, I_aload 0, I_getf [(5, 6)], I_push (2), I_icne 1, I_push (1), I_goto 2]
def K321_1 (E : En_) : List Ii_ := [I_push (0), I_goto 2]
def K321_2 (E : En_) : List Ii_ := [I_push (1), I_callv [(5, 317)] [0, 0, 1] no_, I_aload 0, I_aload 0, I_getf [(5, 7)], I_iload 1, I_iload 2, I_call 333 [0, 0, 0] no_, I_push (2), I_callv [(5, 317)] [0, 0, 1] no_, I_vret]
def M321 : Mi_ := (⟨"SpiritWall$Parser", "requireNumber", "(II)V"⟩, prog_5_method_7_code, 3, (Option.none : Option Jvm.ClassFile.FieldType), [], 5)
/- P.hasPlace (I)Z -/
def K322_0 (E : En_) : List Ii_ := [I_aload 0, I_getf [(5, 2)], I_getf [(1, 0)], I_callv [(11, 29)] [1] no_, I_astore 2, I_goto 1]
def K322_1 (E : En_) : List Ii_ := [I_mask [false, true, true, false], I_aload 2, I_callv [(7, 266), (12, 47)] [1] no_, I_ifeq 3, I_aload 2, I_callv [(7, 267), (12, 48)] [1] no_, I_cast [2] [], I_astore 3, I_aload 3, I_getf [(2, 1)], I_iload 1, I_icne 2, I_push (1), I_nret .boolean]
def K322_2 (E : En_) : List Ii_ := [I_mask [false, true, true, false], I_goto 1]
def K322_3 (E : En_) : List Ii_ := [I_mask [false, false, false, false], I_push (0), I_nret .boolean]
def M322 : Mi_ := (⟨"SpiritWall$Parser", "hasPlace", "(I)Z"⟩, prog_5_method_11_code, 4, (Option.some Jvm.ClassFile.FieldType.boolean), [], 6)
/- P.signed (II)I -/
def K323_0 (E : En_) : List Ii_ := [I_aload 0, I_push (45), I_callv [(5, 324)] [0, 1] no_, I_istore 3, I_iload 3, I_ifeq 1, I_aload 0, I_callv [(5, 315)] [1] no_, I_goto 1]
def K323_1 (E : En_) : List Ii_ := [I_mask [true, true, true, true, false], I_aload 0, I_push (0), I_iload 3, I_ifeq 2, I_iload 1, I_ineg, I_goto 3]
def K323_2 (E : En_) : List Ii_ := [I_mask [false, false, true, true, false], I_iload 2, I_goto 3]
def K323_3 (E : En_) : List Ii_ := [I_mask [false, false, false, true, false], I_callv [(5, 325)] [0, 0, 1] no_, I_istore 4, I_iload 3, I_ifeq 4, I_iload 4, I_ineg, I_goto 5]
def K323_4 (E : En_) : List Ii_ := [I_mask [false, false, false, false], I_iload 4, I_goto 5]
def K323_5 (E : En_) : List Ii_ := [I_mask [false, false, false, false, false], I_iret]
def M323 : Mi_ := (⟨"SpiritWall$Parser", "signed", "(II)I"⟩, prog_5_method_9_code, 5, (Option.some Jvm.ClassFile.FieldType.int), [], 9)
/- P.isSign (I)Z -/
def K324_0 (E : En_) : List Ii_ := [I_aload 0, I_getf [(5, 6)], I_push (3), I_icne 1, I_aload 0, I_getf [(5, 8)], I_iload 1, I_icne 1, I_push (1), I_goto 2]
def K324_1 (E : En_) : List Ii_ := [I_mask [false, false], I_push (0), I_goto 2]
def K324_2 (E : En_) : List Ii_ := [I_mask [false, false], I_nret .boolean]
def M324 : Mi_ := (⟨"SpiritWall$Parser", "isSign", "(I)Z"⟩, prog_5_method_6_code, 2, (Option.some Jvm.ClassFile.FieldType.boolean), [], 1)
/- P.number (II)I -/
def K325_0 (E : En_) : List Ii_ := [I_aload 0, I_iload 1, I_iload 2, I_callv [(5, 321)] [0, 0, 1] no_, I_aload 0, I_getf [(5, 7)], I_istore 3, I_aload 0, I_callv [(5, 315)] [1] no_, I_iload 3, I_iret]
def M325 : Mi_ := (⟨"SpiritWall$Parser", "number", "(II)I"⟩, prog_5_method_8_code, 4, (Option.some Jvm.ClassFile.FieldType.int), [], 8)
/- P.readSight ()V -/
def K326_0 (E : En_) : List Ii_ := [I_aload 0, I_aload 0, I_getf [(5, 2)], I_getf [(1, 1)], I_callv [(11, 26), (18, 11)] [1] no_, I_push (40), I_icge 1, I_push (1), I_goto 2]
def K326_1 (E : En_) : List Ii_ := [I_mask [true, false, false, false, false], I_push (0), I_goto 2]
def K326_2 (E : En_) : List Ii_ := [I_mask [true, false, false, false, false], I_push (5), I_callv [(5, 317)] [0, 0, 1] no_, I_aload 0, I_callv [(5, 315)] [1] no_, I_aload 0, I_push (-1), I_callv [(5, 327)] [0, 1] no_, I_istore 1, I_aload 0, I_iload 1, I_callv [(5, 327)] [0, 1] no_, I_istore 2, I_aload 0, I_aload 0, I_val (.ref (E.2.2.2.2.1 13)), I_callv [(5, 318)] [1, 1] no_, I_ifne 3, I_aload 0, I_val (.ref (E.2.2.2.2.1 14)), I_callv [(5, 318)] [1, 1] no_, I_ifeq 4, I_goto 3]
def K326_3 (E : En_) : List Ii_ := [I_mask [true, true, true, false, false], I_push (1), I_goto 5]
def K326_4 (E : En_) : List Ii_ := [I_mask [true, true, true, false, false], I_push (0), I_goto 5]
def K326_5 (E : En_) : List Ii_ := [I_mask [true, true, true, false, false], I_push (1), I_callv [(5, 317)] [0, 0, 1] no_, I_aload 0, I_val (.ref (E.2.2.2.2.1 13)), I_callv [(5, 318)] [1, 1] no_, I_ifeq 6, I_push (0), I_goto 7]
def K326_6 (E : En_) : List Ii_ := [I_mask [true, true, true, false, false], I_push (1), I_goto 7]
def K326_7 (E : En_) : List Ii_ := [I_mask [true, true, true, false, false], I_istore 3, I_aload 0, I_callv [(5, 315)] [1] no_, I_new 3 [.int 0, .int 0, .int 0, .int 0, .int 0, .int 0], I_dup, I_iload 1, I_iload 2, I_iload 3, I_aload 0, I_push (-9999), I_push (9999), I_callv [(5, 323)] [0, 0, 1] no_, I_push (20), I_calli 252 [0, 0, 0, 0, 0, 1] no_, I_astore 4, I_aload 0, I_val (.ref (E.2.2.2.2.1 15)), I_callv [(5, 318)] [1, 1] no_, I_ifeq 8, I_aload 0, I_callv [(5, 315)] [1] no_, I_aload 4, I_aload 0, I_push (-40), I_push (60), I_callv [(5, 323)] [0, 0, 1] no_, I_putf [(3, 4)] (.int), I_goto 8]
def K326_8 (E : En_) : List Ii_ := [I_mask [true, false, false, false], I_aload 0, I_getf [(5, 2)], I_getf [(1, 1)], I_aload 4, I_callv [(11, 31)] [1, 1] no_, I_pop, I_vret]
def M326 : Mi_ := (⟨"SpiritWall$Parser", "readSight", "()V"⟩, prog_5_method_14_code, 5, (Option.none : Option Jvm.ClassFile.FieldType), [], 10)
/- P.mark (I)I -/
def K327_0 (E : En_) : List Ii_ := [I_aload 0, I_callv [(5, 320)] [1] no_, I_aload 0, I_getf [(5, 2)], I_aload 0, I_getf [(5, 9)], I_callv [(1, 272)] [1, 1] no_, I_istore 2, I_aload 0, I_iload 2, I_push (-1), I_iceq 1, I_iload 2, I_iload 1, I_iceq 2, I_goto 1]
def K327_1 (E : En_) : List Ii_ := [I_mask [true, false], I_push (1), I_goto 3]
def K327_2 (E : En_) : List Ii_ := [I_mask [true, false], I_push (0), I_goto 3]
def K327_3 (E : En_) : List Ii_ := [I_mask [true, false], I_push (3), I_callv [(5, 317)] [0, 0, 1] no_, I_aload 0, I_iload 2, I_push (-1), I_iceq 4, I_push (1), I_goto 5]
def K327_4 (E : En_) : List Ii_ := [I_mask [true, false], I_push (0), I_goto 5]
def K327_5 (E : En_) : List Ii_ := [I_mask [true, false], I_push (4), I_callv [(5, 317)] [0, 0, 1] no_, I_aload 0, I_callv [(5, 315)] [1] no_, I_iload 2, I_iret]
def M327 : Mi_ := (⟨"SpiritWall$Parser", "mark", "(I)I"⟩, prog_5_method_13_code, 3, (Option.some Jvm.ClassFile.FieldType.int), [], 8)
/- P.readSetting ()V -/
def K328_0 (E : En_) : List Ii_ := [I_aload 0, I_getf [(5, 0)], I_aload 0, I_getf [(5, 9)], I_callv [(18, 12)] [1, 1] no_, I_istore 1, I_aload 0, I_iload 1, I_push (-1), I_iceq 1, I_push (1), I_goto 2]
def K328_1 (E : En_) : List Ii_ := [I_push (0), I_goto 2]
def K328_2 (E : En_) : List Ii_ := [I_push (1), I_callv [(5, 317)] [0, 0, 1] no_, I_aload 0, I_aload 0, I_getf [(5, 3)], I_iload 1, I_bald, I_ifne 3, I_push (1), I_goto 4]
def K328_3 (E : En_) : List Ii_ := [I_push (0), I_goto 4]
def K328_4 (E : En_) : List Ii_ := [I_push (3), I_callv [(5, 317)] [0, 0, 1] no_, I_aload 0, I_getf [(5, 3)], I_iload 1, I_push (1), I_bast, I_aload 0, I_callv [(5, 315)] [1] no_, I_iload 1, I_push (4), I_icne 5, I_aload 0, I_getf [(5, 2)], I_aload 0, I_push (-999), I_push (999), I_callv [(5, 323)] [0, 0, 1] no_, I_putf [(1, 4)] (.int), I_aload 0, I_getf [(5, 2)], I_push (1), I_putf [(1, 3)] (.boolean), I_goto 8]
def K328_5 (E : En_) : List Ii_ := [I_aload 0, I_getf [(5, 2)], I_getf [(1, 2)], I_iload 1, I_iload 1, I_push (2), I_icne 6, I_aload 0, I_val (E.2.2.2.1 0), I_iload 1, I_iald, I_val (E.2.2.2.1 1), I_iload 1, I_iald, I_callv [(5, 323)] [0, 0, 1] no_, I_goto 7]
def K328_6 (E : En_) : List Ii_ := [I_aload 0, I_val (E.2.2.2.1 0), I_iload 1, I_iald, I_val (E.2.2.2.1 1), I_iload 1, I_iald, I_callv [(5, 325)] [0, 0, 1] no_, I_goto 7]
def K328_7 (E : En_) : List Ii_ := [I_mask [false, false], I_iast, I_goto 8]
def K328_8 (E : En_) : List Ii_ := [I_mask [false, false], I_vret]
def M328 : Mi_ := (⟨"SpiritWall$Parser", "readSetting", "()V"⟩, prog_5_method_15_code, 2, (Option.none : Option Jvm.ClassFile.FieldType), [], 10)
/- S.init ()V -/
def K329_0 (E : En_) : List Ii_ := [I_aload 0, I_obj, I_aload 0, I_new 1 [.null, .null, .null, .int 0, .int 0], I_dup, I_calli 271 [1] no_, I_putf [(0, 0)] (.object "SpiritWall$Wall"), I_aload 0, I_new 13 [.int 0, .int 0, .null, .null], I_dup, I_calli 52 [1] no_, I_putf [(0, 2)] (.object "java/util/LinkedList"), I_aload 0, I_push (900), I_newa 1, I_putf [(0, 3)] (.array .byte), I_aload 0, I_push (-1), I_putf [(0, 6)] (.int), I_aload 0, I_new 15 [.null, .int 0, .int 0, .int 0], I_dup, I_calli 74 [1] no_, I_putf [(0, 7)] (.object "java/lang/StringBuilder"), I_vret]
def M329 : Mi_ := (⟨"SpiritWall", "<init>", "()V"⟩, prog_1_method_7_code, 1, (Option.none : Option Jvm.ClassFile.FieldType), [], 5)
/- S.feed (IIIII)I -/
def K330_0 (E : En_) : List Ii_ := [I_aload 0, I_getf [(0, 4)], I_push (20), I_iadd, I_push (900), I_icle 1, I_push (-1), I_iret]
def K330_1 (E : En_) : List Ii_ := [I_aload 0, I_iload 1, I_callv [(0, 331)] [0, 1] no_, I_aload 0, I_iload 2, I_callv [(0, 331)] [0, 1] no_, I_aload 0, I_iload 3, I_callv [(0, 331)] [0, 1] no_, I_aload 0, I_iload 4, I_callv [(0, 331)] [0, 1] no_, I_aload 0, I_iload 5, I_callv [(0, 331)] [0, 1] no_, I_aload 0, I_getf [(0, 4)], I_iret]
def M330 : Mi_ := (⟨"SpiritWall", "feed", "(IIIII)I"⟩, prog_1_method_11_code, 6, (Option.some Jvm.ClassFile.FieldType.int), [], 2)
/- S.append (I)V -/
def K331_0 (E : En_) : List Ii_ := [I_push (24), I_istore 2, I_goto 1]
def K331_1 (E : En_) : List Ii_ := [I_iload 2, I_iflt 2, I_aload 0, I_getf [(0, 3)], I_aload 0, I_getf [(0, 4)], I_iload 1, I_iload 2, I_iushr, I_i2b, I_bast, I_aload 0, I_dup, I_getf [(0, 4)], I_push (1), I_iadd, I_putf [(0, 4)] (.int), I_iinc 2 (-8), I_goto 1]
def K331_2 (E : En_) : List Ii_ := [I_mask [false, false, false], I_vret]
def M331 : Mi_ := (⟨"SpiritWall", "append", "(I)V"⟩, prog_1_method_10_code, 3, (Option.none : Option Jvm.ClassFile.FieldType), [], 1)
/- S.truncate (I)Z -/
def K332_0 (E : En_) : List Ii_ := [I_iload 1, I_push (0), I_aload 0, I_getf [(0, 4)], I_call 333 [0, 0, 0] no_, I_ifne 1, I_push (0), I_nret .boolean]
def K332_1 (E : En_) : List Ii_ := [I_aload 0, I_iload 1, I_putf [(0, 4)] (.int), I_push (1), I_nret .boolean]
def M332 : Mi_ := (⟨"SpiritWall", "truncate", "(I)Z"⟩, prog_1_method_12_code, 2, (Option.some Jvm.ClassFile.FieldType.boolean), [], 2)
/- S.inRange (III)Z -/
def K333_0 (E : En_) : List Ii_ := [I_iload 0, I_iload 1, I_iclt 1, I_iload 0, I_iload 2, I_icgt 1, I_push (1), I_goto 2]
def K333_1 (E : En_) : List Ii_ := [I_mask [false, false, false], I_push (0), I_goto 2]
def K333_2 (E : En_) : List Ii_ := [I_mask [false, false, false], I_nret .boolean]
def M333 : Mi_ := (⟨"SpiritWall", "inRange", "(III)Z"⟩, prog_1_method_1_code, 3, (Option.some Jvm.ClassFile.FieldType.boolean), [], 1)
def HS334_16 : Hs_ := fun c => if c = 9 then some (some 1) else none
def HS334_19 : Hs_ := fun c => if c = 9 then some (some 1) else none
def HS334_29 : Hs_ := fun c => if c = 9 then some (some 1) else none
def HS334_44 : Hs_ := fun c => if c = 9 then some (some 1) else none
/- S.parse ()I -/
def K334_0 (E : En_) : List Ii_ := [I_aload 0, I_push (0), I_putf [(0, 5)] (.int), I_aload 0, I_push (-1), I_putf [(0, 6)] (.int), I_aload 0, I_new 5 [.null, .null, .null, .null, .int 0, .int 0, .int 0, .int 0, .int 0, .null, .null], I_dup, I_aload 0, I_calli 313 [1, 1] HS334_16, I_callv [(5, 314)] [1] HS334_19, I_putf [(0, 0)] (.object "SpiritWall$Wall"), I_aload 0, I_getf [(0, 2)], I_callv [(13, 55)] [1] HS334_29, I_aload 0, I_null, I_putf [(0, 1)] (.object "SpiritWall$Wall"), I_aload 0, I_getf [(0, 0)], I_getf [(1, 0)], I_callv [(11, 26), (18, 11)] [1] HS334_44, I_istore 1, I_aload 0, I_push (0), I_putf [(0, 4)] (.int), I_iload 1, I_iret]
def K334_1 (E : En_) : List Ii_ := [I_mask [true, false, false, false], I_astore 1, I_aload 0, I_aload 1, I_getf [(9, 6)], I_putf [(0, 5)] (.int), I_aload 0, I_aload 1, I_getf [(9, 7)], I_putf [(0, 6)] (.int), I_push (-1), I_istore 2, I_aload 0, I_push (0), I_putf [(0, 4)] (.int), I_iload 2, I_iret]
def K334_2 (E : En_) : List Ii_ := [I_mask [true, false, false, false], I_astore 3, I_aload 0, I_push (0), I_putf [(0, 4)] (.int), I_aload 3, I_throw no_]
def M334 : Mi_ := (⟨"SpiritWall", "parse", "()I"⟩, prog_1_method_13_code, 4, (Option.some Jvm.ClassFile.FieldType.int), [(10, 50, 57, 118), (10, 50, 83, 0), (57, 76, 83, 0)], 12)
/- S.errorCode ()I -/
def K335_0 (E : En_) : List Ii_ := [I_aload 0, I_getf [(0, 5)], I_iret]
def M335 : Mi_ := (⟨"SpiritWall", "errorCode", "()I"⟩, prog_1_method_14_code, 1, (Option.some Jvm.ClassFile.FieldType.int), [], 1)
/- S.errorOffset ()I -/
def K336_0 (E : En_) : List Ii_ := [I_aload 0, I_getf [(0, 6)], I_iret]
def M336 : Mi_ := (⟨"SpiritWall", "errorOffset", "()I"⟩, prog_1_method_15_code, 1, (Option.some Jvm.ClassFile.FieldType.int), [], 1)
/- S.count (I)I -/
def K337_0 (E : En_) : List Ii_ := [I_iload 1, I_tsw 0 [1, 2, 3, 4, 5, 6, 7, 8, 9, 10, 11] 12]
def K337_1 (E : En_) : List Ii_ := [I_mask [true, false], I_aload 0, I_getf [(0, 0)], I_getf [(1, 0)], I_callv [(11, 26), (18, 11)] [1] no_, I_goto 13]
def K337_2 (E : En_) : List Ii_ := [I_mask [true, false], I_aload 0, I_getf [(0, 0)], I_callv [(1, 273)] [1] no_, I_goto 13]
def K337_3 (E : En_) : List Ii_ := [I_mask [true, false], I_aload 0, I_getf [(0, 0)], I_getf [(1, 1)], I_callv [(11, 26), (18, 11)] [1] no_, I_goto 13]
def K337_4 (E : En_) : List Ii_ := [I_mask [true, false], I_aload 0, I_getf [(0, 0)], I_callv [(1, 274)] [1] no_, I_goto 13]
def K337_5 (E : En_) : List Ii_ := [I_mask [true, false], I_aload 0, I_callv [(0, 339)] [1] no_, I_callv [(6, 298)] [1] no_, I_goto 13]
def K337_6 (E : En_) : List Ii_ := [I_mask [true, false], I_aload 0, I_callv [(0, 339)] [1] no_, I_callv [(6, 299)] [1] no_, I_goto 13]
def K337_7 (E : En_) : List Ii_ := [I_mask [true, false], I_aload 0, I_callv [(0, 339)] [1] no_, I_getf [(6, 6)], I_callv [(11, 26), (18, 11)] [1] no_, I_goto 13]
def K337_8 (E : En_) : List Ii_ := [I_mask [true, false], I_aload 0, I_callv [(0, 339)] [1] no_, I_callv [(6, 300)] [1] no_, I_goto 13]
def K337_9 (E : En_) : List Ii_ := [I_mask [true, false], I_aload 0, I_getf [(0, 0)], I_callv [(1, 286)] [1] no_, I_goto 13]
def K337_10 (E : En_) : List Ii_ := [I_mask [true, false], I_aload 0, I_getf [(0, 2)], I_callv [(13, 53)] [1] no_, I_goto 13]
def K337_11 (E : En_) : List Ii_ := [I_mask [true, false], I_aload 0, I_callv [(0, 339)] [1] no_, I_callv [(6, 301)] [1] no_, I_goto 13]
def K337_12 (E : En_) : List Ii_ := [I_mask [false, false], I_push (-1), I_goto 13]
def K337_13 (E : En_) : List Ii_ := [I_mask [false, false], I_iret]
def M337 : Mi_ := (⟨"SpiritWall", "count", "(I)I"⟩, prog_1_method_16_code, 2, (Option.some Jvm.ClassFile.FieldType.int), [], 13)
/- S.bit (Z)I -/
def K338_0 (E : En_) : List Ii_ := [I_iload 0, I_ifeq 1, I_push (1), I_goto 2]
def K338_1 (E : En_) : List Ii_ := [I_mask [false], I_push (0), I_goto 2]
def K338_2 (E : En_) : List Ii_ := [I_mask [false], I_iret]
def M338 : Mi_ := (⟨"SpiritWall", "bit", "(Z)I"⟩, prog_1_method_5_code, 1, (Option.some Jvm.ClassFile.FieldType.int), [], 1)
/- S.net ()LSpiritWall$Wall$Net; -/
def K339_0 (E : En_) : List Ii_ := [I_new 6 [.null, .null, .null, .null, .null, .null, .null, .int 0, .null, .null, .null, .int 0, .null], I_dup, I_aload 0, I_getf [(0, 0)], I_dup, I_call 4 [1] no_, I_pop, I_calli 288 [1, 1] no_, I_aret]
def M339 : Mi_ := (⟨"SpiritWall", "net", "()LSpiritWall$Wall$Net;"⟩, prog_1_method_9_code, 1, (Option.some (Jvm.ClassFile.FieldType.object "SpiritWall$Wall$Net")), [], 12)
/- S.key (II)I -/
def K340_0 (E : En_) : List Ii_ := [I_push (12), I_iload 0, I_iload 1, I_min, I_imul, I_iload 0, I_iload 1, I_max, I_iadd, I_iret]
def M340 : Mi_ := (⟨"SpiritWall", "key", "(II)I"⟩, prog_1_method_6_code, 2, (Option.some Jvm.ClassFile.FieldType.int), [], 1)
/- S.setting (I)I -/
def K341_0 (E : En_) : List Ii_ := [I_iload 1, I_push (4), I_icne 1, I_aload 0, I_getf [(0, 0)], I_getf [(1, 3)], I_call 338 [0] no_, I_goto 3]
def K341_1 (E : En_) : List Ii_ := [I_iload 1, I_push (0), I_push (3), I_call 333 [0, 0, 0] no_, I_ifeq 2, I_aload 0, I_getf [(0, 0)], I_getf [(1, 2)], I_iload 1, I_iald, I_goto 3]
def K341_2 (E : En_) : List Ii_ := [I_mask [false, false], I_push (-1), I_goto 3]
def K341_3 (E : En_) : List Ii_ := [I_mask [false, false], I_iret]
def M341 : Mi_ := (⟨"SpiritWall", "setting", "(I)I"⟩, prog_1_method_17_code, 2, (Option.some Jvm.ClassFile.FieldType.int), [], 2)
/- S.levelError ()I -/
def K342_0 (E : En_) : List Ii_ := [I_aload 0, I_getf [(0, 0)], I_callv [(1, 275)] [1] no_, I_iret]
def M342 : Mi_ := (⟨"SpiritWall", "levelError", "()I"⟩, prog_1_method_18_code, 1, (Option.some Jvm.ClassFile.FieldType.int), [], 11)
/- S.find ()I -/
def K343_0 (E : En_) : List Ii_ := [I_new 15 [.null, .int 0, .int 0, .int 0], I_dup, I_calli 74 [1] no_, I_astore 1, I_push (0), I_istore 2, I_goto 1]
def K343_1 (E : En_) : List Ii_ := [I_iload 2, I_aload 0, I_getf [(0, 4)], I_icge 2, I_aload 1, I_aload 0, I_getf [(0, 3)], I_iload 2, I_bald, I_push (255), I_iand, I_i2c, I_callv [(15, 75)] [0, 1] no_, I_pop, I_iinc 2 (1), I_goto 1]
def K343_2 (E : En_) : List Ii_ := [I_mask [true, true, false], I_aload 0, I_push (0), I_putf [(0, 4)] (.int), I_aload 0, I_getf [(0, 0)], I_aload 1, I_callv [(15, 76)] [1] no_, I_callv [(1, 272)] [1, 1] no_, I_iret]
def M343 : Mi_ := (⟨"SpiritWall", "find", "()I"⟩, prog_1_method_23_code, 3, (Option.some Jvm.ClassFile.FieldType.int), [], 7)
/- S.worstLoop ()I -/
def K344_0 (E : En_) : List Ii_ := [I_aload 0, I_callv [(0, 339)] [1] no_, I_getf [(6, 6)], I_astore 1, I_aload 1, I_callv [(11, 36)] [1] no_, I_ifeq 1, I_push (-1), I_goto 2]
def K344_1 (E : En_) : List Ii_ := [I_mask [false, true, false, false], I_push (0), I_goto 2]
def K344_2 (E : En_) : List Ii_ := [I_mask [false, true, false, false], I_istore 2, I_push (1), I_istore 3, I_goto 3]
def K344_3 (E : En_) : List Ii_ := [I_mask [false], I_iload 3, I_aload 1, I_callv [(11, 26), (18, 11)] [1] no_, I_icge 5, I_aload 1, I_iload 3, I_callv [(11, 27)] [0, 1] no_, I_cast [4] [], I_aload 1, I_iload 2, I_callv [(11, 27)] [0, 1] no_, I_cast [4] [], I_callv [(4, 260)] [1, 1] no_, I_ifeq 4, I_iload 3, I_istore 2, I_goto 4]
def K344_4 (E : En_) : List Ii_ := [I_mask [false], I_iinc 3 (1), I_goto 3]
def K344_5 (E : En_) : List Ii_ := [I_mask [false, false, true, false], I_iload 2, I_iret]
def M344 : Mi_ := (⟨"SpiritWall", "worstLoop", "()I"⟩, prog_1_method_36_code, 4, (Option.some Jvm.ClassFile.FieldType.int), [], 13)
/- S.suspect ()I -/
def K345_0 (E : En_) : List Ii_ := [I_aload 0, I_callv [(0, 339)] [1] no_, I_callv [(6, 302)] [1] no_, I_iret]
def M345 : Mi_ := (⟨"SpiritWall", "suspect", "()I"⟩, prog_1_method_37_code, 1, (Option.some Jvm.ClassFile.FieldType.int), [], 13)
/- S.outlier ()I -/
def K346_0 (E : En_) : List Ii_ := [I_aload 0, I_callv [(0, 339)] [1] no_, I_astore 1, I_push (-1), I_istore 2, I_push (-1), I_istore 3, I_push (0), I_istore 4, I_goto 1]
def K346_1 (E : En_) : List Ii_ := [I_mask [true, true, true, true, true, false], I_iload 4, I_aload 0, I_getf [(0, 0)], I_getf [(1, 1)], I_callv [(11, 26), (18, 11)] [1] no_, I_icge 4, I_aload 0, I_getf [(0, 0)], I_getf [(1, 1)], I_iload 4, I_callv [(11, 27)] [0, 1] no_, I_cast [3] [], I_astore 5, I_aload 5, I_getf [(3, 5)], I_ifne 3, I_aload 1, I_getf [(6, 0)], I_aload 5, I_callv [(3, 253)] [1] no_, I_iald, I_push (3), I_iclt 3, I_aload 1, I_aload 5, I_callv [(6, 304)] [1, 1] no_, I_iload 3, I_icgt 2, I_goto 3]
def K346_2 (E : En_) : List Ii_ := [I_mask [true, true, false, false], I_iload 4, I_istore 2, I_aload 1, I_aload 5, I_callv [(6, 304)] [1, 1] no_, I_istore 3, I_goto 3]
def K346_3 (E : En_) : List Ii_ := [I_mask [true, true, true, true, true, false], I_iinc 4 (1), I_goto 1]
def K346_4 (E : En_) : List Ii_ := [I_mask [false, false, true, false, false, false], I_iload 2, I_iret]
def M346 : Mi_ := (⟨"SpiritWall", "outlier", "()I"⟩, prog_1_method_38_code, 6, (Option.some Jvm.ClassFile.FieldType.int), [], 13)
/- S.misfit ()J -/
def K347_0 (E : En_) : List Ii_ := [I_aload 0, I_callv [(0, 339)] [1] no_, I_callv [(6, 305)] [1] no_, I_lret]
def M347 : Mi_ := (⟨"SpiritWall", "misfit", "()J"⟩, prog_1_method_39_code, 1, (Option.some Jvm.ClassFile.FieldType.long), [], 13)
/- S.tensest ()I -/
def K348_0 (E : En_) : List Ii_ := [I_aload 0, I_callv [(0, 339)] [1] no_, I_astore 1, I_push (-1), I_istore 2, I_push (0), I_istore 3, I_goto 1]
def K348_1 (E : En_) : List Ii_ := [I_iload 3, I_aload 0, I_getf [(0, 0)], I_getf [(1, 0)], I_callv [(11, 26), (18, 11)] [1] no_, I_icge 5, I_aload 0, I_getf [(0, 0)], I_getf [(1, 0)], I_iload 3, I_callv [(11, 27)] [0, 1] no_, I_cast [2] [], I_callv [(2, 250)] [1] no_, I_ifeq 4, I_aload 1, I_iload 3, I_callv [(6, 306)] [0, 1] no_, I_iload 2, I_push (-1), I_icne 2, I_push (0), I_goto 3]
def K348_2 (E : En_) : List Ii_ := [I_aload 1, I_iload 2, I_callv [(6, 306)] [0, 1] no_, I_goto 3]
def K348_3 (E : En_) : List Ii_ := [I_icle 4, I_iload 3, I_istore 2, I_goto 4]
def K348_4 (E : En_) : List Ii_ := [I_iinc 3 (1), I_goto 1]
def K348_5 (E : En_) : List Ii_ := [I_mask [false, false, true, false], I_iload 2, I_iret]
def M348 : Mi_ := (⟨"SpiritWall", "tensest", "()I"⟩, prog_1_method_41_code, 4, (Option.some Jvm.ClassFile.FieldType.int), [], 13)
/- S.bridges ()I -/
def K349_0 (E : En_) : List Ii_ := [I_aload 0, I_callv [(0, 339)] [1] no_, I_astore 1, I_push (0), I_istore 2, I_aload 1, I_callv [(6, 290)] [1] no_, I_astore 3, I_goto 1]
def K349_1 (E : En_) : List Ii_ := [I_mask [false, true, true, true, false], I_aload 3, I_callv [(7, 266), (12, 47)] [1] no_, I_ifeq 4, I_aload 3, I_callv [(7, 267), (12, 48)] [1] no_, I_cast [17] [], I_callv [(17, 43)] [1] no_, I_istore 4, I_iload 2, I_aload 1, I_iload 4, I_push (0), I_callv [(6, 303)] [0, 0, 1] no_, I_ifne 2, I_push (1), I_goto 3]
def K349_2 (E : En_) : List Ii_ := [I_mask [false, true, false, true, false], I_push (0), I_goto 3]
def K349_3 (E : En_) : List Ii_ := [I_mask [false, true, false, true, false], I_call 338 [0] no_, I_iadd, I_istore 2, I_goto 1]
def K349_4 (E : En_) : List Ii_ := [I_mask [false, false, true, false, false], I_iload 2, I_iret]
def M349 : Mi_ := (⟨"SpiritWall", "bridges", "()I"⟩, prog_1_method_44_code, 5, (Option.some Jvm.ClassFile.FieldType.int), [], 13)
/- S.meanSwings ()D -/
def K350_0 (E : En_) : List Ii_ := [I_push (0), I_istore 1, I_aload 0, I_getf [(0, 0)], I_getf [(1, 1)], I_callv [(11, 29)] [1] no_, I_astore 2, I_goto 1]
def K350_1 (E : En_) : List Ii_ := [I_mask [true, true, true, false], I_aload 2, I_callv [(7, 266), (12, 47)] [1] no_, I_ifeq 4, I_aload 2, I_callv [(7, 267), (12, 48)] [1] no_, I_cast [3] [], I_astore 3, I_iload 1, I_aload 3, I_getf [(3, 5)], I_ifeq 2, I_push (0), I_goto 3]
def K350_2 (E : En_) : List Ii_ := [I_mask [true, false], I_aload 0, I_getf [(0, 0)], I_aload 3, I_callv [(1, 285)] [1, 1] no_, I_goto 3]
def K350_3 (E : En_) : List Ii_ := [I_mask [true, false, true, false], I_iadd, I_istore 1, I_goto 1]
def K350_4 (E : En_) : List Ii_ := [I_mask [true, true, false, false], I_aload 0, I_getf [(0, 0)], I_getf [(1, 1)], I_callv [(11, 26), (18, 11)] [1] no_, I_aload 0, I_getf [(0, 0)], I_callv [(1, 274)] [1] no_, I_isub, I_istore 2, I_iload 2, I_ifne 5, I_dc0, I_goto 6]
def K350_5 (E : En_) : List Ii_ := [I_mask [false, true, true, false], I_iload 1, I_i2d, I_iload 2, I_i2d, I_ddiv, I_goto 6]
def K350_6 (E : En_) : List Ii_ := [I_mask [false, false, false, false], I_dret]
def M350 : Mi_ := (⟨"SpiritWall", "meanSwings", "()D"⟩, prog_1_method_45_code, 4, (Option.some Jvm.ClassFile.FieldType.double), [], 7)
/- S.closedShare ()F -/
def K351_0 (E : En_) : List Ii_ := [I_aload 0, I_callv [(0, 339)] [1] no_, I_astore 1, I_aload 1, I_getf [(6, 6)], I_callv [(11, 36)] [1] no_, I_ifeq 1, I_fc1, I_goto 2]
def K351_1 (E : En_) : List Ii_ := [I_mask [false], I_aload 1, I_callv [(6, 300)] [1] no_, I_i2f, I_aload 1, I_getf [(6, 6)], I_callv [(11, 26), (18, 11)] [1] no_, I_i2f, I_fdiv, I_goto 2]
def K351_2 (E : En_) : List Ii_ := [I_mask [false, false], I_fret]
def M351 : Mi_ := (⟨"SpiritWall", "closedShare", "()F"⟩, prog_1_method_46_code, 2, (Option.some Jvm.ClassFile.FieldType.float), [], 13)
/- S.bestStrike ()I -/
def K352_0 (E : En_) : List Ii_ := [I_aload 0, I_getf [(0, 0)], I_callv [(1, 287)] [1] no_, I_astore 1, I_push (-1), I_istore 2, I_push (0), I_istore 3, I_push (0), I_istore 4, I_goto 1]
def K352_1 (E : En_) : List Ii_ := [I_mask [true, true, true, true, true, false, false], I_iload 4, I_aload 0, I_getf [(0, 0)], I_getf [(1, 1)], I_callv [(11, 26), (18, 11)] [1] no_, I_icge 5, I_aload 0, I_getf [(0, 0)], I_getf [(1, 1)], I_iload 4, I_callv [(11, 27)] [0, 1] no_, I_cast [3] [], I_getf [(3, 5)], I_ifeq 2, I_goto 4]
def K352_2 (E : En_) : List Ii_ := [I_mask [true, true, true, true, true, false, false], I_aload 1, I_iload 4, I_call 353 [0, 1] no_, I_astore 5, I_aload 5, I_getf [(6, 6)], I_callv [(11, 26), (18, 11)] [1] no_, I_aload 5, I_callv [(6, 300)] [1] no_, I_isub, I_istore 6, I_iload 2, I_push (-1), I_iceq 3, I_iload 6, I_iload 3, I_iclt 3, I_goto 4]
def K352_3 (E : En_) : List Ii_ := [I_mask [true, true, false, false, true, false], I_iload 4, I_istore 2, I_iload 6, I_istore 3, I_goto 4]
def K352_4 (E : En_) : List Ii_ := [I_mask [true, true, true, true, true, false, false], I_iinc 4 (1), I_goto 1]
def K352_5 (E : En_) : List Ii_ := [I_mask [false, false, true, false, false, false, false], I_iload 2, I_iret]
def M352 : Mi_ := (⟨"SpiritWall", "bestStrike", "()I"⟩, prog_1_method_49_code, 7, (Option.some Jvm.ClassFile.FieldType.int), [], 13)
/- S.netIf (LSpiritWall$Wall;I)LSpiritWall$Wall$Net; -/
def K353_0 (E : En_) : List Ii_ := [I_aload 0, I_getf [(1, 1)], I_iload 1, I_callv [(11, 27)] [0, 1] no_, I_cast [3] [], I_astore 2, I_aload 2, I_aload 2, I_getf [(3, 5)], I_ifne 1, I_push (1), I_goto 2]
def K353_1 (E : En_) : List Ii_ := [I_mask [true, false, true, false], I_push (0), I_goto 2]
def K353_2 (E : En_) : List Ii_ := [I_mask [true, false, true, false], I_putf [(3, 5)] (.boolean), I_new 6 [.null, .null, .null, .null, .null, .null, .null, .int 0, .null, .null, .null, .int 0, .null], I_dup, I_aload 0, I_dup, I_call 4 [1] no_, I_pop, I_calli 288 [1, 1] no_, I_astore 3, I_aload 2, I_aload 2, I_getf [(3, 5)], I_ifne 3, I_push (1), I_goto 4]
def K353_3 (E : En_) : List Ii_ := [I_mask [false, false, false], I_push (0), I_goto 4]
def K353_4 (E : En_) : List Ii_ := [I_mask [false, false, false], I_putf [(3, 5)] (.boolean), I_aload 3, I_aret]
def M353 : Mi_ := (⟨"SpiritWall", "netIf", "(LSpiritWall$Wall;I)LSpiritWall$Wall$Net;"⟩, prog_1_method_47_code, 4, (Option.some (Jvm.ClassFile.FieldType.object "SpiritWall$Wall$Net")), [], 12)
/- S.leastLimit ()I -/
def K354_0 (E : En_) : List Ii_ := [I_aload 0, I_callv [(0, 339)] [1] no_, I_astore 1, I_push (0), I_istore 2, I_push (0), I_istore 3, I_goto 1]
def K354_1 (E : En_) : List Ii_ := [I_mask [false], I_iload 3, I_aload 1, I_getf [(6, 6)], I_callv [(11, 26), (18, 11)] [1] no_, I_icge 4, I_goto 2]
def K354_2 (E : En_) : List Ii_ := [I_mask [false], I_iload 2, I_val (E.2.2.2.1 1), I_push (3), I_iald, I_icgt 3, I_aload 1, I_getf [(6, 6)], I_iload 3, I_callv [(11, 27)] [0, 1] no_, I_cast [4] [], I_iload 2, I_callv [(4, 259)] [0, 1] no_, I_ifne 3, I_iinc 2 (1), I_goto 2]
def K354_3 (E : En_) : List Ii_ := [I_mask [false], I_iinc 3 (1), I_goto 1]
def K354_4 (E : En_) : List Ii_ := [I_mask [false, false, true, false], I_iload 2, I_val (E.2.2.2.1 1), I_push (3), I_iald, I_icle 5, I_push (-1), I_goto 6]
def K354_5 (E : En_) : List Ii_ := [I_mask [false, false, true, false], I_iload 2, I_goto 6]
def K354_6 (E : En_) : List Ii_ := [I_mask [false, false, false, false], I_iret]
def M354 : Mi_ := (⟨"SpiritWall", "leastLimit", "()I"⟩, prog_1_method_53_code, 4, (Option.some Jvm.ClassFile.FieldType.int), [], 13)
/- S.level ()I -/
def K355_0 (E : En_) : List Ii_ := [I_aload 0, I_callv [(0, 356)] [1] no_, I_aload 0, I_callv [(0, 339)] [1] no_, I_callv [(6, 308)] [1] no_, I_aload 0, I_getf [(0, 0)], I_callv [(1, 286)] [1] no_, I_iret]
def M355 : Mi_ := (⟨"SpiritWall", "level", "()I"⟩, prog_1_method_59_code, 1, (Option.some Jvm.ClassFile.FieldType.int), [], 13)
/- S.remember ()V -/
def K356_0 (E : En_) : List Ii_ := [I_aload 0, I_getf [(0, 2)], I_callv [(13, 53)] [1] no_, I_push (10), I_icne 1, I_aload 0, I_getf [(0, 2)], I_callv [(13, 56)] [1] no_, I_pop, I_goto 1]
def K356_1 (E : En_) : List Ii_ := [I_aload 0, I_getf [(0, 2)], I_aload 0, I_getf [(0, 0)], I_callv [(13, 58)] [1, 1] no_, I_aload 0, I_aload 0, I_getf [(0, 0)], I_callv [(1, 287)] [1] no_, I_putf [(0, 0)] (.object "SpiritWall$Wall"), I_vret]
def M356 : Mi_ := (⟨"SpiritWall", "remember", "()V"⟩, prog_1_method_8_code, 1, (Option.none : Option Jvm.ClassFile.FieldType), [], 8)
/- S.findError ()I -/
def K357_0 (E : En_) : List Ii_ := [I_aload 0, I_callv [(0, 356)] [1] no_, I_aload 0, I_getf [(0, 0)], I_push (0), I_putf [(1, 3)] (.boolean), I_aload 0, I_getf [(0, 0)], I_callv [(1, 275)] [1] no_, I_iret]
def M357 : Mi_ := (⟨"SpiritWall", "findError", "()I"⟩, prog_1_method_62_code, 1, (Option.some Jvm.ClassFile.FieldType.int), [], 11)
/- S.printMarks ()I -/
def K358_0 (E : En_) : List Ii_ := [I_aload 0, I_getf [(0, 7)], I_push (0), I_callv [(15, 80)] [0, 1] no_, I_push (0), I_istore 1, I_goto 1]
def K358_1 (E : En_) : List Ii_ := [I_mask [true, true, false], I_iload 1, I_aload 0, I_getf [(0, 0)], I_getf [(1, 0)], I_callv [(11, 26), (18, 11)] [1] no_, I_icge 6, I_aload 0, I_getf [(0, 0)], I_getf [(1, 0)], I_iload 1, I_callv [(11, 27)] [0, 1] no_, I_cast [2] [], I_astore 2, I_iload 1, I_ifle 2, I_aload 0, I_getf [(0, 7)], I_push (32), I_callv [(15, 75)] [0, 1] no_, I_pop, I_goto 2]
def K358_2 (E : En_) : List Ii_ := [I_aload 0, I_getf [(0, 7)], I_aload 2, I_getf [(2, 0)], I_callv [(15, 79)] [1, 1] no_, I_push (58), I_callv [(15, 75)] [0, 1] no_, I_pop, I_aload 2, I_callv [(2, 250)] [1] no_, I_ifeq 3, I_aload 0, I_getf [(0, 7)], I_aload 2, I_getf [(2, 3)], I_callv [(15, 78)] [0, 1] no_, I_pop, I_goto 4]
def K358_3 (E : En_) : List Ii_ := [I_aload 0, I_getf [(0, 7)], I_push (63), I_callv [(15, 75)] [0, 1] no_, I_pop, I_goto 4]
def K358_4 (E : En_) : List Ii_ := [I_aload 2, I_getf [(2, 2)], I_ifeq 5, I_aload 0, I_getf [(0, 7)], I_push (42), I_callv [(15, 75)] [0, 1] no_, I_pop, I_goto 5]
def K358_5 (E : En_) : List Ii_ := [I_mask [true, true, false], I_iinc 1 (1), I_goto 1]
def K358_6 (E : En_) : List Ii_ := [I_mask [true, false, false], I_aload 0, I_getf [(0, 7)], I_callv [(15, 77)] [1] no_, I_iret]
def M358 : Mi_ := (⟨"SpiritWall", "printMarks", "()I"⟩, prog_1_method_65_code, 3, (Option.some Jvm.ClassFile.FieldType.int), [], 6)
/- S.outputByte (I)I -/
def K359_0 (E : En_) : List Ii_ := [I_iload 1, I_push (0), I_aload 0, I_getf [(0, 7)], I_callv [(15, 77)] [1] no_, I_push (1), I_isub, I_call 333 [0, 0, 0] no_, I_ifeq 1, I_aload 0, I_getf [(0, 7)], I_iload 1, I_callv [(15, 81)] [0, 1] no_, I_goto 2]
def K359_1 (E : En_) : List Ii_ := [I_mask [false, false], I_push (-1), I_goto 2]
def K359_2 (E : En_) : List Ii_ := [I_mask [false, false], I_iret]
def M359 : Mi_ := (⟨"SpiritWall", "outputByte", "(I)I"⟩, prog_1_method_68_code, 2, (Option.some Jvm.ClassFile.FieldType.int), [], 5)
/- S.saveState ()I -/
def K360_0 (E : En_) : List Ii_ := [I_aload 0, I_aload 0, I_getf [(0, 0)], I_callv [(1, 287)] [1] no_, I_putf [(0, 1)] (.object "SpiritWall$Wall"), I_aload 0, I_getf [(0, 0)], I_getf [(1, 1)], I_callv [(11, 26), (18, 11)] [1] no_, I_iret]
def M360 : Mi_ := (⟨"SpiritWall", "saveState", "()I"⟩, prog_1_method_69_code, 1, (Option.some Jvm.ClassFile.FieldType.int), [], 8)
/- S.estimate (II)I -/
def K361_0 (E : En_) : List Ii_ := [I_aload 0, I_iload 1, I_iload 2, I_callv [(0, 362)] [0, 0, 1] no_, I_iload 1, I_iload 2, I_icne 1, I_push (-10000000), I_goto 2]
def K361_1 (E : En_) : List Ii_ := [I_aload 0, I_getf [(0, 0)], I_iload 1, I_iload 2, I_call 340 [0, 0] no_, I_callv [(1, 277)] [0, 1] no_, I_goto 2]
def K361_2 (E : En_) : List Ii_ := [I_mask [false, false, false], I_iret]
def M361 : Mi_ := (⟨"SpiritWall", "estimate", "(II)I"⟩, prog_1_method_22_code, 3, (Option.some Jvm.ClassFile.FieldType.int), [], 11)
/- S.checkMarks (II)V -/
def K362_0 (E : En_) : List Ii_ := [I_aload 0, I_iload 1, I_callv [(0, 363)] [0, 1] no_, I_aload 0, I_iload 2, I_callv [(0, 363)] [0, 1] no_, I_vret]
def M362 : Mi_ := (⟨"SpiritWall", "checkMarks", "(II)V"⟩, prog_1_method_20_code, 3, (Option.none : Option Jvm.ClassFile.FieldType), [], 10)
/- S.checkMark (I)V -/
def K363_0 (E : En_) : List Ii_ := [I_iload 1, I_push (0), I_aload 0, I_getf [(0, 0)], I_getf [(1, 0)], I_callv [(11, 26), (18, 11)] [1] no_, I_push (1), I_isub, I_call 333 [0, 0, 0] no_, I_call 364 [0] no_, I_vret]
def M363 : Mi_ := (⟨"SpiritWall", "checkMark", "(I)V"⟩, prog_1_method_19_code, 2, (Option.none : Option Jvm.ClassFile.FieldType), [], 9)
/- S.checkIndex (Z)V -/
def K364_0 (E : En_) : List Ii_ := [I_iload 0, I_ifne 1, I_mkx 19, I_throw no_]
def K364_1 (E : En_) : List Ii_ := [I_mask [false], I_vret]
def M364 : Mi_ := (⟨"SpiritWall", "checkIndex", "(Z)V"⟩, prog_1_method_2_code, 1, (Option.none : Option Jvm.ClassFile.FieldType), [], 8)
/- S.mark (II)I -/
def K365_0 (E : En_) : List Ii_ := [I_aload 0, I_iload 1, I_callv [(0, 363)] [0, 1] no_, I_iload 2, I_tsw 0 [1, 2, 3, 4, 5] 6]
def K365_1 (E : En_) : List Ii_ := [I_mask [true, true, false], I_aload 0, I_getf [(0, 0)], I_getf [(1, 0)], I_iload 1, I_callv [(11, 27)] [0, 1] no_, I_cast [2] [], I_getf [(2, 1)], I_goto 7]
def K365_2 (E : En_) : List Ii_ := [I_mask [true, true, false], I_aload 0, I_getf [(0, 0)], I_getf [(1, 0)], I_iload 1, I_callv [(11, 27)] [0, 1] no_, I_cast [2] [], I_getf [(2, 2)], I_call 338 [0] no_, I_goto 7]
def K365_3 (E : En_) : List Ii_ := [I_mask [true, true, false], I_aload 0, I_iload 1, I_callv [(0, 366)] [0, 1] no_, I_goto 7]
def K365_4 (E : En_) : List Ii_ := [I_mask [true, true, false], I_aload 0, I_iload 1, I_push (0), I_callv [(0, 367)] [0, 0, 1] no_, I_goto 7]
def K365_5 (E : En_) : List Ii_ := [I_mask [true, true, false], I_aload 0, I_callv [(0, 339)] [1] no_, I_getf [(6, 4)], I_iload 1, I_iald, I_goto 7]
def K365_6 (E : En_) : List Ii_ := [I_mask [false, false, false], I_mkx 20, I_throw no_]
def K365_7 (E : En_) : List Ii_ := [I_mask [false, false, false], I_iret]
def M365 : Mi_ := (⟨"SpiritWall", "mark", "(II)I"⟩, prog_1_method_26_code, 3, (Option.some Jvm.ClassFile.FieldType.int), [], 14)
/- S.edgesOf (I)I -/
def K366_0 (E : En_) : List Ii_ := [I_aload 0, I_callv [(0, 339)] [1] no_, I_astore 2, I_push (0), I_istore 3, I_push (0), I_istore 4, I_goto 1]
def K366_1 (E : En_) : List Ii_ := [I_iload 4, I_aload 0, I_getf [(0, 0)], I_getf [(1, 0)], I_callv [(11, 26), (18, 11)] [1] no_, I_icge 2, I_iload 3, I_aload 2, I_iload 1, I_iload 4, I_callv [(6, 307)] [0, 0, 1] no_, I_call 338 [0] no_, I_iadd, I_istore 3, I_iinc 4 (1), I_goto 1]
def K366_2 (E : En_) : List Ii_ := [I_mask [false, false, false, true, false], I_iload 3, I_iret]
def M366 : Mi_ := (⟨"SpiritWall", "edgesOf", "(I)I"⟩, prog_1_method_24_code, 5, (Option.some Jvm.ClassFile.FieldType.int), [], 13)
/- S.sightsOf (IZ)I -/
def K367_0 (E : En_) : List Ii_ := [I_push (0), I_istore 3, I_aload 0, I_getf [(0, 0)], I_getf [(1, 1)], I_callv [(11, 29)] [1] no_, I_astore 4, I_goto 1]
def K367_1 (E : En_) : List Ii_ := [I_mask [false, true, true, true, true, false], I_aload 4, I_callv [(7, 266), (12, 47)] [1] no_, I_ifeq 5, I_aload 4, I_callv [(7, 267), (12, 48)] [1] no_, I_cast [3] [], I_astore 5, I_iload 3, I_aload 5, I_iload 1, I_callv [(3, 257)] [0, 1] no_, I_ifeq 3, I_iload 2, I_ifne 2, I_aload 5, I_getf [(3, 5)], I_ifne 3, I_goto 2]
def K367_2 (E : En_) : List Ii_ := [I_mask [false, true, true, false, true, false], I_push (1), I_goto 4]
def K367_3 (E : En_) : List Ii_ := [I_mask [false, true, true, false, true, false], I_push (0), I_goto 4]
def K367_4 (E : En_) : List Ii_ := [I_mask [false, true, true, false, true, false], I_call 338 [0] no_, I_iadd, I_istore 3, I_goto 1]
def K367_5 (E : En_) : List Ii_ := [I_mask [false, false, false, true, false, false], I_iload 3, I_iret]
def M367 : Mi_ := (⟨"SpiritWall", "sightsOf", "(IZ)I"⟩, prog_1_method_25_code, 6, (Option.some Jvm.ClassFile.FieldType.int), [], 6)
/- S.height (I)I -/
def K368_0 (E : En_) : List Ii_ := [I_aload 0, I_iload 1, I_callv [(0, 363)] [0, 1] no_, I_aload 0, I_getf [(0, 0)], I_getf [(1, 0)], I_iload 1, I_callv [(11, 27)] [0, 1] no_, I_cast [2] [], I_getf [(2, 3)], I_iret]
def M368 : Mi_ := (⟨"SpiritWall", "height", "(I)I"⟩, prog_1_method_27_code, 2, (Option.some Jvm.ClassFile.FieldType.int), [], 10)
/- S.whyNone (I)I -/
def K369_0 (E : En_) : List Ii_ := [I_aload 0, I_iload 1, I_callv [(0, 363)] [0, 1] no_, I_aload 0, I_iload 1, I_callv [(0, 370)] [0, 1] no_, I_push (-10000000), I_iceq 1, I_push (0), I_iret]
def K369_1 (E : En_) : List Ii_ := [I_aload 0, I_iload 1, I_push (1), I_callv [(0, 367)] [0, 0, 1] no_, I_ifne 2, I_push (1), I_goto 4]
def K369_2 (E : En_) : List Ii_ := [I_aload 0, I_iload 1, I_push (0), I_callv [(0, 367)] [0, 0, 1] no_, I_ifne 3, I_push (2), I_goto 4]
def K369_3 (E : En_) : List Ii_ := [I_mask [false, false], I_push (3), I_goto 4]
def K369_4 (E : En_) : List Ii_ := [I_mask [false, false], I_iret]
def M369 : Mi_ := (⟨"SpiritWall", "whyNone", "(I)I"⟩, prog_1_method_28_code, 2, (Option.some Jvm.ClassFile.FieldType.int), [], 13)
/- S.heightIf (I)I -/
def K370_0 (E : En_) : List Ii_ := [I_aload 0, I_iload 1, I_callv [(0, 363)] [0, 1] no_, I_aload 0, I_getf [(0, 0)], I_callv [(1, 287)] [1] no_, I_astore 2, I_new 6 [.null, .null, .null, .null, .null, .null, .null, .int 0, .null, .null, .null, .int 0, .null], I_dup, I_aload 2, I_dup, I_call 4 [1] no_, I_pop, I_calli 288 [1, 1] no_, I_astore 3, I_aload 3, I_callv [(6, 308)] [1] no_, I_aload 2, I_getf [(1, 0)], I_iload 1, I_callv [(11, 27)] [0, 1] no_, I_cast [2] [], I_getf [(2, 3)], I_iret]
def M370 : Mi_ := (⟨"SpiritWall", "heightIf", "(I)I"⟩, prog_1_method_52_code, 4, (Option.some Jvm.ClassFile.FieldType.int), [], 12)
/- S.sight (II)I -/
def K371_0 (E : En_) : List Ii_ := [I_aload 0, I_iload 1, I_callv [(0, 372)] [0, 1] no_, I_aload 0, I_getf [(0, 0)], I_getf [(1, 1)], I_iload 1, I_callv [(11, 27)] [0, 1] no_, I_cast [3] [], I_astore 3, I_iload 2, I_tsw 0 [1, 2, 3, 4, 5, 6, 7, 8, 9, 10] 11]
def K371_1 (E : En_) : List Ii_ := [I_mask [false, false, false], I_aload 3, I_getf [(3, 0)], I_goto 12]
def K371_2 (E : En_) : List Ii_ := [I_mask [false, false, false], I_aload 3, I_getf [(3, 1)], I_goto 12]
def K371_3 (E : En_) : List Ii_ := [I_mask [false, false, false], I_aload 3, I_getf [(3, 2)], I_goto 12]
def K371_4 (E : En_) : List Ii_ := [I_mask [false, false, false], I_aload 3, I_getf [(3, 3)], I_goto 12]
def K371_5 (E : En_) : List Ii_ := [I_mask [false, false, false], I_aload 3, I_getf [(3, 4)], I_goto 12]
def K371_6 (E : En_) : List Ii_ := [I_mask [false, false, false], I_aload 3, I_getf [(3, 5)], I_call 338 [0] no_, I_goto 12]
def K371_7 (E : En_) : List Ii_ := [I_mask [true, false, false], I_aload 0, I_getf [(0, 0)], I_aload 3, I_callv [(1, 285)] [1, 1] no_, I_goto 12]
def K371_8 (E : En_) : List Ii_ := [I_mask [true, false, false], I_aload 0, I_getf [(0, 0)], I_aload 3, I_callv [(1, 282)] [1, 1] no_, I_goto 12]
def K371_9 (E : En_) : List Ii_ := [I_mask [true, false, false], I_aload 0, I_getf [(0, 0)], I_aload 3, I_callv [(1, 283)] [1, 1] no_, I_goto 12]
def K371_10 (E : En_) : List Ii_ := [I_mask [true, false, false], I_aload 0, I_getf [(0, 0)], I_aload 3, I_aload 0, I_getf [(0, 0)], I_callv [(1, 275)] [1] no_, I_callv [(1, 284)] [0, 1, 1] no_, I_goto 12]
def K371_11 (E : En_) : List Ii_ := [I_mask [false, false, false, false], I_mkx 20, I_throw no_]
def K371_12 (E : En_) : List Ii_ := [I_mask [false, false, false, false], I_iret]
def M371 : Mi_ := (⟨"SpiritWall", "sight", "(II)I"⟩, prog_1_method_29_code, 4, (Option.some Jvm.ClassFile.FieldType.int), [], 11)
/- S.checkSight (I)V -/
def K372_0 (E : En_) : List Ii_ := [I_iload 1, I_push (0), I_aload 0, I_getf [(0, 0)], I_getf [(1, 1)], I_callv [(11, 26), (18, 11)] [1] no_, I_push (1), I_isub, I_call 333 [0, 0, 0] no_, I_call 364 [0] no_, I_vret]
def M372 : Mi_ := (⟨"SpiritWall", "checkSight", "(I)V"⟩, prog_1_method_21_code, 2, (Option.none : Option Jvm.ClassFile.FieldType), [], 9)
/- S.rise (II)I -/
def K373_0 (E : En_) : List Ii_ := [I_aload 0, I_iload 1, I_iload 2, I_callv [(0, 362)] [0, 0, 1] no_, I_aload 0, I_callv [(0, 339)] [1] no_, I_astore 3, I_aload 3, I_iload 1, I_iload 2, I_callv [(6, 307)] [0, 0, 1] no_, I_ifeq 1, I_aload 3, I_iload 1, I_iload 2, I_callv [(6, 297)] [0, 0, 1] no_, I_goto 2]
def K373_1 (E : En_) : List Ii_ := [I_mask [false, false, false, false], I_push (-10000000), I_goto 2]
def K373_2 (E : En_) : List Ii_ := [I_mask [false, false, false, false], I_iret]
def M373 : Mi_ := (⟨"SpiritWall", "rise", "(II)I"⟩, prog_1_method_30_code, 4, (Option.some Jvm.ClassFile.FieldType.int), [], 13)
/- S.edge (III)I -/
def K374_0 (E : En_) : List Ii_ := [I_aload 0, I_iload 1, I_iload 2, I_callv [(0, 362)] [0, 0, 1] no_, I_iload 3, I_push (0), I_push (6), I_call 333 [0, 0, 0] no_, I_call 375 [0] no_, I_aload 0, I_callv [(0, 339)] [1] no_, I_astore 4, I_iload 1, I_iload 2, I_call 340 [0, 0] no_, I_istore 5, I_aload 4, I_iload 1, I_iload 2, I_callv [(6, 307)] [0, 0, 1] no_, I_ifne 1, I_push (-1), I_iret]
def K374_1 (E : En_) : List Ii_ := [I_mask [false, false, false], I_iload 3, I_tsw 0 [2, 3, 4, 5, 6, 7] 8]
def K374_2 (E : En_) : List Ii_ := [I_mask [false, false, false, false], I_aload 4, I_getf [(6, 0)], I_iload 5, I_iald, I_goto 9]
def K374_3 (E : En_) : List Ii_ := [I_mask [false, false, false, false], I_aload 4, I_iload 5, I_callv [(6, 292)] [0, 1] no_, I_goto 9]
def K374_4 (E : En_) : List Ii_ := [I_mask [false, false, false, false], I_aload 4, I_iload 5, I_callv [(6, 309)] [0, 1] no_, I_goto 9]
def K374_5 (E : En_) : List Ii_ := [I_mask [false, false, false, false], I_aload 4, I_getf [(6, 5)], I_iload 5, I_bald, I_call 338 [0] no_, I_goto 9]
def K374_6 (E : En_) : List Ii_ := [I_mask [false, false, false, false], I_aload 4, I_iload 5, I_push (0), I_callv [(6, 303)] [0, 0, 1] no_, I_goto 9]
def K374_7 (E : En_) : List Ii_ := [I_mask [false, false, false, false], I_aload 4, I_iload 5, I_push (1), I_callv [(6, 303)] [0, 0, 1] no_, I_goto 9]
def K374_8 (E : En_) : List Ii_ := [I_mask [false, false, false, false], I_aload 4, I_getf [(6, 3)], I_iload 5, I_iald, I_aload 4, I_getf [(6, 2)], I_iload 5, I_iald, I_isub, I_goto 9]
def K374_9 (E : En_) : List Ii_ := [I_mask [false, false, false, false, false, false], I_iret]
def M374 : Mi_ := (⟨"SpiritWall", "edge", "(III)I"⟩, prog_1_method_31_code, 6, (Option.some Jvm.ClassFile.FieldType.int), [], 13)
/- S.checkArgument (Z)V -/
def K375_0 (E : En_) : List Ii_ := [I_iload 0, I_ifne 1, I_mkx 20, I_throw no_]
def K375_1 (E : En_) : List Ii_ := [I_mask [false], I_vret]
def M375 : Mi_ := (⟨"SpiritWall", "checkArgument", "(Z)V"⟩, prog_1_method_3_code, 1, (Option.none : Option Jvm.ClassFile.FieldType), [], 8)
/- S.along (II)I -/
def K376_0 (E : En_) : List Ii_ := [I_aload 0, I_iload 1, I_iload 2, I_callv [(0, 362)] [0, 0, 1] no_, I_aload 0, I_callv [(0, 339)] [1] no_, I_iload 1, I_iload 2, I_callv [(6, 310)] [0, 0, 1] no_, I_iret]
def M376 : Mi_ := (⟨"SpiritWall", "along", "(II)I"⟩, prog_1_method_32_code, 3, (Option.some Jvm.ClassFile.FieldType.int), [], 13)
/- S.loop (II)I -/
def K377_0 (E : En_) : List Ii_ := [I_aload 0, I_callv [(0, 339)] [1] no_, I_iload 1, I_call 378 [0, 1] no_, I_astore 3, I_iload 2, I_tsw 0 [1, 2, 3, 4, 5, 6] 7]
def K377_1 (E : En_) : List Ii_ := [I_mask [false, false, false], I_aload 3, I_getf [(4, 0)], I_push (0), I_iald, I_goto 8]
def K377_2 (E : En_) : List Ii_ := [I_mask [false, false, false], I_aload 3, I_getf [(4, 0)], I_push (1), I_iald, I_goto 8]
def K377_3 (E : En_) : List Ii_ := [I_mask [false, false, false], I_aload 3, I_getf [(4, 0)], I_alen, I_goto 8]
def K377_4 (E : En_) : List Ii_ := [I_mask [false, false, false], I_aload 3, I_getf [(4, 2)], I_goto 8]
def K377_5 (E : En_) : List Ii_ := [I_mask [false, false, false], I_aload 3, I_getf [(4, 1)], I_goto 8]
def K377_6 (E : En_) : List Ii_ := [I_mask [true, false, false], I_aload 3, I_aload 0, I_getf [(0, 0)], I_getf [(1, 2)], I_push (3), I_iald, I_callv [(4, 259)] [0, 1] no_, I_call 338 [0] no_, I_goto 8]
def K377_7 (E : En_) : List Ii_ := [I_mask [false, false, false, false], I_mkx 20, I_throw no_]
def K377_8 (E : En_) : List Ii_ := [I_mask [false, false, false, false], I_iret]
def M377 : Mi_ := (⟨"SpiritWall", "loop", "(II)I"⟩, prog_1_method_34_code, 4, (Option.some Jvm.ClassFile.FieldType.int), [], 13)
/- S.loop_2 (LSpiritWall$Wall$Net;I)LSpiritWall$Loop; -/
def K378_0 (E : En_) : List Ii_ := [I_iload 1, I_push (0), I_aload 0, I_getf [(6, 6)], I_callv [(11, 26), (18, 11)] [1] no_, I_push (1), I_isub, I_call 333 [0, 0, 0] no_, I_call 364 [0] no_, I_aload 0, I_getf [(6, 6)], I_iload 1, I_callv [(11, 27)] [0, 1] no_, I_cast [4] [], I_aret]
def M378 : Mi_ := (⟨"SpiritWall", "loop", "(LSpiritWall$Wall$Net;I)LSpiritWall$Loop;"⟩, prog_1_method_33_code, 2, (Option.some (Jvm.ClassFile.FieldType.object "SpiritWall$Loop")), [], 9)
/- S.loopMark (II)I -/
def K379_0 (E : En_) : List Ii_ := [I_aload 0, I_callv [(0, 339)] [1] no_, I_iload 1, I_call 378 [0, 1] no_, I_astore 3, I_iload 2, I_push (0), I_aload 3, I_getf [(4, 0)], I_alen, I_push (1), I_isub, I_call 333 [0, 0, 0] no_, I_ifeq 1, I_aload 3, I_getf [(4, 0)], I_iload 2, I_iald, I_goto 2]
def K379_1 (E : En_) : List Ii_ := [I_mask [false, false, false, false], I_push (-1), I_goto 2]
def K379_2 (E : En_) : List Ii_ := [I_mask [false, false, false, false], I_iret]
def M379 : Mi_ := (⟨"SpiritWall", "loopMark", "(II)I"⟩, prog_1_method_35_code, 4, (Option.some Jvm.ClassFile.FieldType.int), [], 13)
/- S.tension (I)I -/
def K380_0 (E : En_) : List Ii_ := [I_aload 0, I_iload 1, I_callv [(0, 363)] [0, 1] no_, I_aload 0, I_getf [(0, 0)], I_getf [(1, 0)], I_iload 1, I_callv [(11, 27)] [0, 1] no_, I_cast [2] [], I_callv [(2, 250)] [1] no_, I_ifeq 1, I_aload 0, I_callv [(0, 339)] [1] no_, I_iload 1, I_callv [(6, 306)] [0, 1] no_, I_goto 2]
def K380_1 (E : En_) : List Ii_ := [I_mask [false, false], I_push (-10000000), I_goto 2]
def K380_2 (E : En_) : List Ii_ := [I_mask [false, false], I_iret]
def M380 : Mi_ := (⟨"SpiritWall", "tension", "(I)I"⟩, prog_1_method_40_code, 2, (Option.some Jvm.ClassFile.FieldType.int), [], 13)
/- S.neighbour (II)I -/
def K381_0 (E : En_) : List Ii_ := [I_aload 0, I_iload 1, I_callv [(0, 363)] [0, 1] no_, I_aload 0, I_callv [(0, 339)] [1] no_, I_astore 3, I_iload 2, I_istore 4, I_push (0), I_istore 5, I_goto 1]
def K381_1 (E : En_) : List Ii_ := [I_mask [true, true, false], I_iload 5, I_aload 0, I_getf [(0, 0)], I_getf [(1, 0)], I_callv [(11, 26), (18, 11)] [1] no_, I_icge 5, I_iload 4, I_iflt 5, I_aload 3, I_iload 1, I_iload 5, I_callv [(6, 307)] [0, 0, 1] no_, I_ifne 2, I_goto 4]
def K381_2 (E : En_) : List Ii_ := [I_mask [true, true, false], I_iload 4, I_ifne 3, I_iload 5, I_iret]
def K381_3 (E : En_) : List Ii_ := [I_mask [true, true, false], I_iinc 4 (-1), I_goto 4]
def K381_4 (E : En_) : List Ii_ := [I_mask [true, true, false], I_iinc 5 (1), I_goto 1]
def K381_5 (E : En_) : List Ii_ := [I_mask [false, false, false, false, false, false], I_push (-1), I_iret]
def M381 : Mi_ := (⟨"SpiritWall", "neighbour", "(II)I"⟩, prog_1_method_42_code, 6, (Option.some Jvm.ClassFile.FieldType.int), [], 13)
/- S.loopsOf (I)I -/
def K382_0 (E : En_) : List Ii_ := [I_aload 0, I_iload 1, I_callv [(0, 363)] [0, 1] no_, I_push (0), I_istore 2, I_aload 0, I_callv [(0, 339)] [1] no_, I_getf [(6, 6)], I_callv [(11, 29)] [1] no_, I_astore 3, I_goto 1]
def K382_1 (E : En_) : List Ii_ := [I_mask [false, true, true, true, false, false, false, false, false], I_aload 3, I_callv [(7, 266), (12, 47)] [1] no_, I_ifeq 6, I_aload 3, I_callv [(7, 267), (12, 48)] [1] no_, I_cast [4] [], I_astore 4, I_aload 4, I_getf [(4, 0)], I_astore 5, I_aload 5, I_alen, I_istore 6, I_push (0), I_istore 7, I_goto 2]
def K382_2 (E : En_) : List Ii_ := [I_mask [false, true, true, true, false, true, true, true, false], I_iload 7, I_iload 6, I_icge 5, I_aload 5, I_iload 7, I_iald, I_istore 8, I_iload 2, I_iload 8, I_iload 1, I_icne 3, I_push (1), I_goto 4]
def K382_3 (E : En_) : List Ii_ := [I_mask [false, true, false, true, false, true, true, true, false], I_push (0), I_goto 4]
def K382_4 (E : En_) : List Ii_ := [I_mask [false, true, false, true, false, true, true, true, false], I_call 338 [0] no_, I_iadd, I_istore 2, I_iinc 7 (1), I_goto 2]
def K382_5 (E : En_) : List Ii_ := [I_mask [false, true, true, true, false, false, false, false, false], I_goto 1]
def K382_6 (E : En_) : List Ii_ := [I_mask [false, false, true, false, false, false, false, false, false], I_iload 2, I_iret]
def M382 : Mi_ := (⟨"SpiritWall", "loopsOf", "(I)I"⟩, prog_1_method_43_code, 9, (Option.some Jvm.ClassFile.FieldType.int), [], 13)
/- S.closedIf (I)I -/
def K383_0 (E : En_) : List Ii_ := [I_aload 0, I_iload 1, I_callv [(0, 372)] [0, 1] no_, I_aload 0, I_getf [(0, 0)], I_callv [(1, 287)] [1] no_, I_iload 1, I_call 353 [0, 1] no_, I_callv [(6, 300)] [1] no_, I_iret]
def M383 : Mi_ := (⟨"SpiritWall", "closedIf", "(I)I"⟩, prog_1_method_48_code, 2, (Option.some Jvm.ClassFile.FieldType.int), [], 13)
/- S.errorWith (I)I -/
def K384_0 (E : En_) : List Ii_ := [I_iload 1, I_val (E.2.2.2.1 0), I_push (0), I_iald, I_val (E.2.2.2.1 1), I_push (0), I_iald, I_call 333 [0, 0, 0] no_, I_call 375 [0] no_, I_aload 0, I_getf [(0, 0)], I_callv [(1, 287)] [1] no_, I_astore 2, I_aload 2, I_getf [(1, 2)], I_push (0), I_iload 1, I_iast, I_aload 2, I_callv [(1, 276)] [1] no_, I_iret]
def M384 : Mi_ := (⟨"SpiritWall", "errorWith", "(I)I"⟩, prog_1_method_50_code, 3, (Option.some Jvm.ClassFile.FieldType.int), [], 10)
/- S.misfitAfter (I)J -/
def K385_0 (E : En_) : List Ii_ := [I_iload 1, I_push (0), I_push (50), I_call 333 [0, 0, 0] no_, I_call 375 [0] no_, I_new 6 [.null, .null, .null, .null, .null, .null, .null, .int 0, .null, .null, .null, .int 0, .null], I_dup, I_aload 0, I_getf [(0, 0)], I_callv [(1, 287)] [1] no_, I_dup, I_call 4 [1] no_, I_pop, I_calli 288 [1, 1] no_, I_astore 2, I_aload 2, I_callv [(6, 308)] [1] no_, I_aload 2, I_iload 1, I_callv [(6, 311)] [0, 1] no_, I_istore 3, I_iload 3, I_ifge 1, I_pushl (0), I_goto 2]
def K385_1 (E : En_) : List Ii_ := [I_mask [false, false, true, false], I_aload 2, I_callv [(6, 305)] [1] no_, I_goto 2]
def K385_2 (E : En_) : List Ii_ := [I_mask [false, false, false, false], I_lret]
def M385 : Mi_ := (⟨"SpiritWall", "misfitAfter", "(I)J"⟩, prog_1_method_51_code, 4, (Option.some Jvm.ClassFile.FieldType.long), [], 12)
/- S.addSight (IIIII)I -/
def K386_0 (E : En_) : List Ii_ := [I_aload 0, I_iload 1, I_iload 2, I_callv [(0, 362)] [0, 0, 1] no_, I_iload 1, I_iload 2, I_iceq 1, I_iload 3, I_push (0), I_push (1), I_call 333 [0, 0, 0] no_, I_ifeq 1, I_iload 4, I_push (-9999), I_push (9999), I_call 333 [0, 0, 0] no_, I_ifeq 1, I_iload 5, I_push (-40), I_push (60), I_call 333 [0, 0, 0] no_, I_ifeq 1, I_push (1), I_goto 2]
def K386_1 (E : En_) : List Ii_ := [I_push (0), I_goto 2]
def K386_2 (E : En_) : List Ii_ := [I_call 375 [0] no_, I_aload 0, I_getf [(0, 0)], I_getf [(1, 1)], I_callv [(11, 26), (18, 11)] [1] no_, I_push (40), I_icge 3, I_push (1), I_goto 4]
def K386_3 (E : En_) : List Ii_ := [I_push (0), I_goto 4]
def K386_4 (E : En_) : List Ii_ := [I_call 387 [0] no_, I_aload 0, I_callv [(0, 356)] [1] no_, I_aload 0, I_getf [(0, 0)], I_getf [(1, 1)], I_new 3 [.int 0, .int 0, .int 0, .int 0, .int 0, .int 0], I_dup, I_iload 1, I_iload 2, I_iload 3, I_iload 4, I_iload 5, I_calli 252 [0, 0, 0, 0, 0, 1] no_, I_callv [(11, 31)] [1, 1] no_, I_pop, I_aload 0, I_getf [(0, 0)], I_getf [(1, 1)], I_callv [(11, 26), (18, 11)] [1] no_, I_push (1), I_isub, I_iret]
def M386 : Mi_ := (⟨"SpiritWall", "addSight", "(IIIII)I"⟩, prog_1_method_54_code, 6, (Option.some Jvm.ClassFile.FieldType.int), [], 11)
/- S.checkState (Z)V -/
def K387_0 (E : En_) : List Ii_ := [I_iload 0, I_ifne 1, I_mkx 21, I_throw no_]
def K387_1 (E : En_) : List Ii_ := [I_mask [false], I_vret]
def M387 : Mi_ := (⟨"SpiritWall", "checkState", "(Z)V"⟩, prog_1_method_4_code, 1, (Option.none : Option Jvm.ClassFile.FieldType), [], 8)
/- S.strike (IZ)Z -/
def K388_0 (E : En_) : List Ii_ := [I_aload 0, I_iload 1, I_callv [(0, 372)] [0, 1] no_, I_aload 0, I_getf [(0, 0)], I_getf [(1, 1)], I_iload 1, I_callv [(11, 27)] [0, 1] no_, I_cast [3] [], I_getf [(3, 5)], I_istore 3, I_aload 0, I_callv [(0, 356)] [1] no_, I_aload 0, I_getf [(0, 0)], I_getf [(1, 1)], I_iload 1, I_callv [(11, 27)] [0, 1] no_, I_cast [3] [], I_iload 2, I_putf [(3, 5)] (.boolean), I_iload 3, I_nret .boolean]
def M388 : Mi_ := (⟨"SpiritWall", "strike", "(IZ)Z"⟩, prog_1_method_55_code, 4, (Option.some Jvm.ClassFile.FieldType.boolean), [], 10)
/- S.swap (II)I -/
def K389_0 (E : En_) : List Ii_ := [I_aload 0, I_iload 1, I_callv [(0, 372)] [0, 1] no_, I_iload 2, I_push (-9999), I_push (9999), I_call 333 [0, 0, 0] no_, I_call 375 [0] no_, I_aload 0, I_callv [(0, 356)] [1] no_, I_aload 0, I_getf [(0, 0)], I_getf [(1, 1)], I_iload 1, I_callv [(11, 27)] [0, 1] no_, I_cast [3] [], I_astore 3, I_aload 3, I_iload 2, I_putf [(3, 3)] (.int), I_aload 3, I_push (1), I_aload 3, I_getf [(3, 2)], I_isub, I_putf [(3, 2)] (.int), I_aload 3, I_getf [(3, 2)], I_iret]
def M389 : Mi_ := (⟨"SpiritWall", "swap", "(II)I"⟩, prog_1_method_56_code, 4, (Option.some Jvm.ClassFile.FieldType.int), [], 10)
/- S.fix (II)Z -/
def K390_0 (E : En_) : List Ii_ := [I_aload 0, I_iload 1, I_callv [(0, 363)] [0, 1] no_, I_iload 2, I_push (-99999), I_push (99999), I_call 333 [0, 0, 0] no_, I_call 375 [0] no_, I_aload 0, I_getf [(0, 0)], I_getf [(1, 0)], I_iload 1, I_callv [(11, 27)] [0, 1] no_, I_cast [2] [], I_getf [(2, 2)], I_istore 3, I_aload 0, I_callv [(0, 356)] [1] no_, I_aload 0, I_getf [(0, 0)], I_getf [(1, 0)], I_iload 1, I_callv [(11, 27)] [0, 1] no_, I_cast [2] [], I_iload 2, I_callv [(2, 249)] [0, 1] no_, I_iload 3, I_nret .boolean]
def M390 : Mi_ := (⟨"SpiritWall", "fix", "(II)Z"⟩, prog_1_method_57_code, 4, (Option.some Jvm.ClassFile.FieldType.boolean), [], 10)
/- S.free (I)I -/
def K391_0 (E : En_) : List Ii_ := [I_aload 0, I_iload 1, I_callv [(0, 363)] [0, 1] no_, I_aload 0, I_getf [(0, 0)], I_getf [(1, 0)], I_iload 1, I_callv [(11, 27)] [0, 1] no_, I_cast [2] [], I_getf [(2, 2)], I_call 387 [0] no_, I_aload 0, I_callv [(0, 356)] [1] no_, I_aload 0, I_getf [(0, 0)], I_getf [(1, 0)], I_iload 1, I_callv [(11, 27)] [0, 1] no_, I_cast [2] [], I_push (0), I_putf [(2, 2)] (.boolean), I_aload 0, I_getf [(0, 0)], I_callv [(1, 273)] [1] no_, I_iret]
def M391 : Mi_ := (⟨"SpiritWall", "free", "(I)I"⟩, prog_1_method_58_code, 2, (Option.some Jvm.ClassFile.FieldType.int), [], 10)
/- S.relax (I)I -/
def K392_0 (E : En_) : List Ii_ := [I_iload 1, I_push (1), I_push (50), I_call 333 [0, 0, 0] no_, I_call 375 [0] no_, I_aload 0, I_callv [(0, 356)] [1] no_, I_aload 0, I_callv [(0, 339)] [1] no_, I_iload 1, I_callv [(6, 311)] [0, 1] no_, I_iret]
def M392 : Mi_ := (⟨"SpiritWall", "relax", "(I)I"⟩, prog_1_method_60_code, 2, (Option.some Jvm.ClassFile.FieldType.int), [], 13)
/- S.tellError (I)I -/
def K393_0 (E : En_) : List Ii_ := [I_iload 1, I_push (-999), I_push (999), I_call 333 [0, 0, 0] no_, I_call 375 [0] no_, I_aload 0, I_getf [(0, 0)], I_callv [(1, 275)] [1] no_, I_istore 2, I_aload 0, I_callv [(0, 356)] [1] no_, I_aload 0, I_getf [(0, 0)], I_push (1), I_putf [(1, 3)] (.boolean), I_aload 0, I_getf [(0, 0)], I_iload 1, I_putf [(1, 4)] (.int), I_iload 2, I_iret]
def M393 : Mi_ := (⟨"SpiritWall", "tellError", "(I)I"⟩, prog_1_method_61_code, 3, (Option.some Jvm.ClassFile.FieldType.int), [], 11)
/- S.set (II)I -/
def K394_0 (E : En_) : List Ii_ := [I_iload 1, I_push (0), I_push (3), I_call 333 [0, 0, 0] no_, I_call 375 [0] no_, I_iload 2, I_val (E.2.2.2.1 0), I_iload 1, I_iald, I_val (E.2.2.2.1 1), I_iload 1, I_iald, I_call 333 [0, 0, 0] no_, I_call 375 [0] no_, I_aload 0, I_getf [(0, 0)], I_getf [(1, 2)], I_iload 1, I_iald, I_istore 3, I_aload 0, I_callv [(0, 356)] [1] no_, I_aload 0, I_getf [(0, 0)], I_getf [(1, 2)], I_iload 1, I_iload 2, I_iast, I_iload 3, I_iret]
def M394 : Mi_ := (⟨"SpiritWall", "set", "(II)I"⟩, prog_1_method_63_code, 4, (Option.some Jvm.ClassFile.FieldType.int), [], 9)
/- S.undo ()I -/
def K395_0 (E : En_) : List Ii_ := [I_aload 0, I_getf [(0, 2)], I_callv [(13, 1)] [1] no_, I_ifne 1, I_push (1), I_goto 2]
def K395_1 (E : En_) : List Ii_ := [I_push (0), I_goto 2]
def K395_2 (E : En_) : List Ii_ := [I_call 387 [0] no_, I_aload 0, I_aload 0, I_getf [(0, 2)], I_callv [(13, 59)] [1] no_, I_cast [1] [], I_putf [(0, 0)] (.object "SpiritWall$Wall"), I_aload 0, I_getf [(0, 2)], I_callv [(13, 53)] [1] no_, I_iret]
def M395 : Mi_ := (⟨"SpiritWall", "undo", "()I"⟩, prog_1_method_64_code, 1, (Option.some Jvm.ClassFile.FieldType.int), [], 9)
/- S.printLoop (I)I -/
def K396_0 (E : En_) : List Ii_ := [I_aload 0, I_callv [(0, 339)] [1] no_, I_iload 1, I_call 378 [0, 1] no_, I_astore 2, I_aload 0, I_getf [(0, 7)], I_push (0), I_callv [(15, 80)] [0, 1] no_, I_push (0), I_istore 3, I_goto 1]
def K396_1 (E : En_) : List Ii_ := [I_mask [true, false], I_iload 3, I_aload 2, I_getf [(4, 0)], I_alen, I_icge 3, I_iload 3, I_ifle 2, I_aload 0, I_getf [(0, 7)], I_push (47), I_callv [(15, 75)] [0, 1] no_, I_pop, I_goto 2]
def K396_2 (E : En_) : List Ii_ := [I_mask [true, false], I_aload 0, I_getf [(0, 7)], I_aload 0, I_getf [(0, 0)], I_getf [(1, 0)], I_aload 2, I_getf [(4, 0)], I_iload 3, I_iald, I_callv [(11, 27)] [0, 1] no_, I_cast [2] [], I_getf [(2, 0)], I_callv [(15, 79)] [1, 1] no_, I_pop, I_iinc 3 (1), I_goto 1]
def K396_3 (E : En_) : List Ii_ := [I_mask [true, false, true, false], I_aload 0, I_getf [(0, 7)], I_push (32), I_callv [(15, 75)] [0, 1] no_, I_aload 2, I_getf [(4, 1)], I_callv [(15, 78)] [0, 1] no_, I_pop, I_aload 2, I_aload 0, I_getf [(0, 0)], I_getf [(1, 2)], I_push (3), I_iald, I_callv [(4, 259)] [0, 1] no_, I_ifne 4, I_aload 0, I_getf [(0, 7)], I_push (33), I_callv [(15, 75)] [0, 1] no_, I_pop, I_goto 4]
def K396_4 (E : En_) : List Ii_ := [I_mask [true, false, false, false], I_aload 0, I_getf [(0, 7)], I_callv [(15, 77)] [1] no_, I_iret]
def M396 : Mi_ := (⟨"SpiritWall", "printLoop", "(I)I"⟩, prog_1_method_66_code, 4, (Option.some Jvm.ClassFile.FieldType.int), [], 13)
/- S.printSight (I)I -/
def K397_0 (E : En_) : List Ii_ := [I_aload 0, I_iload 1, I_callv [(0, 372)] [0, 1] no_, I_aload 0, I_getf [(0, 0)], I_getf [(1, 1)], I_iload 1, I_callv [(11, 27)] [0, 1] no_, I_cast [3] [], I_astore 2, I_aload 0, I_getf [(0, 7)], I_push (0), I_callv [(15, 80)] [0, 1] no_, I_aload 2, I_getf [(3, 5)], I_ifeq 1, I_aload 0, I_getf [(0, 7)], I_val (.ref (E.2.2.2.2.1 0)), I_callv [(15, 79)] [1, 1] no_, I_pop, I_goto 1]
def K397_1 (E : En_) : List Ii_ := [I_mask [true, false], I_aload 0, I_getf [(0, 7)], I_val (.ref (E.2.2.2.2.1 1)), I_callv [(15, 79)] [1, 1] no_, I_aload 0, I_getf [(0, 0)], I_getf [(1, 0)], I_aload 2, I_getf [(3, 0)], I_callv [(11, 27)] [0, 1] no_, I_cast [2] [], I_getf [(2, 0)], I_callv [(15, 79)] [1, 1] no_, I_push (32), I_callv [(15, 75)] [0, 1] no_, I_aload 0, I_getf [(0, 0)], I_getf [(1, 0)], I_aload 2, I_getf [(3, 1)], I_callv [(11, 27)] [0, 1] no_, I_cast [2] [], I_getf [(2, 0)], I_callv [(15, 79)] [1, 1] no_, I_pop, I_aload 0, I_getf [(0, 7)], I_aload 2, I_getf [(3, 2)], I_ifne 2, I_val (.ref (E.2.2.2.2.1 2)), I_goto 3]
def K397_2 (E : En_) : List Ii_ := [I_mask [true, false], I_val (.ref (E.2.2.2.2.1 3)), I_goto 3]
def K397_3 (E : En_) : List Ii_ := [I_mask [true, false], I_callv [(15, 79)] [1, 1] no_, I_aload 2, I_getf [(3, 3)], I_callv [(15, 78)] [0, 1] no_, I_val (.ref (E.2.2.2.2.1 4)), I_callv [(15, 79)] [1, 1] no_, I_aload 2, I_getf [(3, 4)], I_callv [(15, 78)] [0, 1] no_, I_pop, I_aload 0, I_getf [(0, 7)], I_callv [(15, 77)] [1] no_, I_iret]
def M397 : Mi_ := (⟨"SpiritWall", "printSight", "(I)I"⟩, prog_1_method_67_code, 3, (Option.some Jvm.ClassFile.FieldType.int), [], 10)
/- S.restoreState ()I -/
def K398_0 (E : En_) : List Ii_ := [I_aload 0, I_getf [(0, 1)], I_ifnull 1, I_push (1), I_goto 2]
def K398_1 (E : En_) : List Ii_ := [I_push (0), I_goto 2]
def K398_2 (E : En_) : List Ii_ := [I_call 387 [0] no_, I_aload 0, I_aload 0, I_getf [(0, 1)], I_callv [(1, 287)] [1] no_, I_putf [(0, 0)] (.object "SpiritWall$Wall"), I_aload 0, I_getf [(0, 2)], I_callv [(13, 55)] [1] no_, I_aload 0, I_getf [(0, 0)], I_getf [(1, 1)], I_callv [(11, 26), (18, 11)] [1] no_, I_iret]
def M398 : Mi_ := (⟨"SpiritWall", "restoreState", "()I"⟩, prog_1_method_70_code, 1, (Option.some Jvm.ClassFile.FieldType.int), [], 9)
def HS399_5 : Hs_ := fun c => if c = 19 then some (some 1) else none
/- V.estimate (LSpiritWall;II[J)I -/
def K399_0 (E : En_) : List Ii_ := [I_aload 3, I_push (0), I_aload 0, I_iload 1, I_iload 2, I_callv [(0, 361)] [0, 0, 1] HS399_5, I_i2l, I_last, I_goto 2]
def K399_1 (E : En_) : List Ii_ := [I_mask [false, false, false, false, false], I_astore 4, I_push (1), I_iret]
def K399_2 (E : En_) : List Ii_ := [I_mask [false, false, false, false, false], I_push (0), I_iret]
def M399 : Mi_ := (⟨"SpiritWallLaw", "estimate", "(LSpiritWall;II[J)I"⟩, method_3_code, 5, (Option.some Jvm.ClassFile.FieldType.int), [(0, 10, 13, 13)], 12)
def HS400_5 : Hs_ := fun c => if c = 19 then some (some 1) else if c = 20 then some (some 2) else none
/- V.mark (LSpiritWall;II[J)I -/
def K400_0 (E : En_) : List Ii_ := [I_aload 3, I_push (0), I_aload 0, I_iload 1, I_iload 2, I_callv [(0, 365)] [0, 0, 1] HS400_5, I_i2l, I_last, I_goto 3]
def K400_1 (E : En_) : List Ii_ := [I_mask [false, false, false, false, false], I_astore 4, I_push (1), I_iret]
def K400_2 (E : En_) : List Ii_ := [I_mask [false, false, false, false, false], I_astore 4, I_push (2), I_iret]
def K400_3 (E : En_) : List Ii_ := [I_mask [false, false, false, false, false], I_push (0), I_iret]
def M400 : Mi_ := (⟨"SpiritWallLaw", "mark", "(LSpiritWall;II[J)I"⟩, method_4_code, 5, (Option.some Jvm.ClassFile.FieldType.int), [(0, 10, 13, 13), (0, 10, 17, 18)], 15)
def HS401_4 : Hs_ := fun c => if c = 19 then some (some 1) else none
/- V.height (LSpiritWall;I[J)I -/
def K401_0 (E : En_) : List Ii_ := [I_aload 2, I_push (0), I_aload 0, I_iload 1, I_callv [(0, 368)] [0, 1] HS401_4, I_i2l, I_last, I_goto 2]
def K401_1 (E : En_) : List Ii_ := [I_mask [false, false, false, false], I_astore 3, I_push (1), I_iret]
def K401_2 (E : En_) : List Ii_ := [I_mask [false, false, false, false], I_push (0), I_iret]
def M401 : Mi_ := (⟨"SpiritWallLaw", "height", "(LSpiritWall;I[J)I"⟩, method_5_code, 4, (Option.some Jvm.ClassFile.FieldType.int), [(0, 9, 12, 13)], 11)
def HS402_4 : Hs_ := fun c => if c = 19 then some (some 1) else none
/- V.whyNone (LSpiritWall;I[J)I -/
def K402_0 (E : En_) : List Ii_ := [I_aload 2, I_push (0), I_aload 0, I_iload 1, I_callv [(0, 369)] [0, 1] HS402_4, I_i2l, I_last, I_goto 2]
def K402_1 (E : En_) : List Ii_ := [I_mask [false, false, false, false], I_astore 3, I_push (1), I_iret]
def K402_2 (E : En_) : List Ii_ := [I_mask [false, false, false, false], I_push (0), I_iret]
def M402 : Mi_ := (⟨"SpiritWallLaw", "whyNone", "(LSpiritWall;I[J)I"⟩, method_6_code, 4, (Option.some Jvm.ClassFile.FieldType.int), [(0, 9, 12, 13)], 14)
def HS403_5 : Hs_ := fun c => if c = 19 then some (some 1) else if c = 20 then some (some 2) else none
/- V.sight (LSpiritWall;II[J)I -/
def K403_0 (E : En_) : List Ii_ := [I_aload 3, I_push (0), I_aload 0, I_iload 1, I_iload 2, I_callv [(0, 371)] [0, 0, 1] HS403_5, I_i2l, I_last, I_goto 3]
def K403_1 (E : En_) : List Ii_ := [I_mask [false, false, false, false, false], I_astore 4, I_push (1), I_iret]
def K403_2 (E : En_) : List Ii_ := [I_mask [false, false, false, false, false], I_astore 4, I_push (2), I_iret]
def K403_3 (E : En_) : List Ii_ := [I_mask [false, false, false, false, false], I_push (0), I_iret]
def M403 : Mi_ := (⟨"SpiritWallLaw", "sight", "(LSpiritWall;II[J)I"⟩, method_7_code, 5, (Option.some Jvm.ClassFile.FieldType.int), [(0, 10, 13, 13), (0, 10, 17, 18)], 12)
def HS404_5 : Hs_ := fun c => if c = 19 then some (some 1) else none
/- V.rise (LSpiritWall;II[J)I -/
def K404_0 (E : En_) : List Ii_ := [I_aload 3, I_push (0), I_aload 0, I_iload 1, I_iload 2, I_callv [(0, 373)] [0, 0, 1] HS404_5, I_i2l, I_last, I_goto 2]
def K404_1 (E : En_) : List Ii_ := [I_mask [false, false, false, false, false], I_astore 4, I_push (1), I_iret]
def K404_2 (E : En_) : List Ii_ := [I_mask [false, false, false, false, false], I_push (0), I_iret]
def M404 : Mi_ := (⟨"SpiritWallLaw", "rise", "(LSpiritWall;II[J)I"⟩, method_8_code, 5, (Option.some Jvm.ClassFile.FieldType.int), [(0, 10, 13, 13)], 14)
def HS405_7 : Hs_ := fun c => if c = 19 then some (some 1) else if c = 20 then some (some 2) else none
/- V.edge (LSpiritWall;III[J)I -/
def K405_0 (E : En_) : List Ii_ := [I_aload 4, I_push (0), I_aload 0, I_iload 1, I_iload 2, I_iload 3, I_callv [(0, 374)] [0, 0, 0, 1] HS405_7, I_i2l, I_last, I_goto 3]
def K405_1 (E : En_) : List Ii_ := [I_mask [false, false, false, false, false, false], I_astore 5, I_push (1), I_iret]
def K405_2 (E : En_) : List Ii_ := [I_mask [false, false, false, false, false, false], I_astore 5, I_push (2), I_iret]
def K405_3 (E : En_) : List Ii_ := [I_mask [false, false, false, false, false, false], I_push (0), I_iret]
def M405 : Mi_ := (⟨"SpiritWallLaw", "edge", "(LSpiritWall;III[J)I"⟩, method_9_code, 6, (Option.some Jvm.ClassFile.FieldType.int), [(0, 12, 15, 13), (0, 12, 19, 18)], 14)
def HS406_5 : Hs_ := fun c => if c = 19 then some (some 1) else none
/- V.along (LSpiritWall;II[J)I -/
def K406_0 (E : En_) : List Ii_ := [I_aload 3, I_push (0), I_aload 0, I_iload 1, I_iload 2, I_callv [(0, 376)] [0, 0, 1] HS406_5, I_i2l, I_last, I_goto 2]
def K406_1 (E : En_) : List Ii_ := [I_mask [false, false, false, false, false], I_astore 4, I_push (1), I_iret]
def K406_2 (E : En_) : List Ii_ := [I_mask [false, false, false, false, false], I_push (0), I_iret]
def M406 : Mi_ := (⟨"SpiritWallLaw", "along", "(LSpiritWall;II[J)I"⟩, method_10_code, 5, (Option.some Jvm.ClassFile.FieldType.int), [(0, 10, 13, 13)], 14)
def HS407_5 : Hs_ := fun c => if c = 19 then some (some 1) else if c = 20 then some (some 2) else none
/- V.loop (LSpiritWall;II[J)I -/
def K407_0 (E : En_) : List Ii_ := [I_aload 3, I_push (0), I_aload 0, I_iload 1, I_iload 2, I_callv [(0, 377)] [0, 0, 1] HS407_5, I_i2l, I_last, I_goto 3]
def K407_1 (E : En_) : List Ii_ := [I_mask [false, false, false, false, false], I_astore 4, I_push (1), I_iret]
def K407_2 (E : En_) : List Ii_ := [I_mask [false, false, false, false, false], I_astore 4, I_push (2), I_iret]
def K407_3 (E : En_) : List Ii_ := [I_mask [false, false, false, false, false], I_push (0), I_iret]
def M407 : Mi_ := (⟨"SpiritWallLaw", "loop", "(LSpiritWall;II[J)I"⟩, method_11_code, 5, (Option.some Jvm.ClassFile.FieldType.int), [(0, 10, 13, 13), (0, 10, 17, 18)], 14)
def HS408_5 : Hs_ := fun c => if c = 19 then some (some 1) else none
/- V.loopMark (LSpiritWall;II[J)I -/
def K408_0 (E : En_) : List Ii_ := [I_aload 3, I_push (0), I_aload 0, I_iload 1, I_iload 2, I_callv [(0, 379)] [0, 0, 1] HS408_5, I_i2l, I_last, I_goto 2]
def K408_1 (E : En_) : List Ii_ := [I_mask [false, false, false, false, false], I_astore 4, I_push (1), I_iret]
def K408_2 (E : En_) : List Ii_ := [I_mask [false, false, false, false, false], I_push (0), I_iret]
def M408 : Mi_ := (⟨"SpiritWallLaw", "loopMark", "(LSpiritWall;II[J)I"⟩, method_12_code, 5, (Option.some Jvm.ClassFile.FieldType.int), [(0, 10, 13, 13)], 14)
def HS409_4 : Hs_ := fun c => if c = 19 then some (some 1) else none
/- V.tension (LSpiritWall;I[J)I -/
def K409_0 (E : En_) : List Ii_ := [I_aload 2, I_push (0), I_aload 0, I_iload 1, I_callv [(0, 380)] [0, 1] HS409_4, I_i2l, I_last, I_goto 2]
def K409_1 (E : En_) : List Ii_ := [I_mask [false, false, false, false], I_astore 3, I_push (1), I_iret]
def K409_2 (E : En_) : List Ii_ := [I_mask [false, false, false, false], I_push (0), I_iret]
def M409 : Mi_ := (⟨"SpiritWallLaw", "tension", "(LSpiritWall;I[J)I"⟩, method_13_code, 4, (Option.some Jvm.ClassFile.FieldType.int), [(0, 9, 12, 13)], 14)
def HS410_5 : Hs_ := fun c => if c = 19 then some (some 1) else none
/- V.neighbour (LSpiritWall;II[J)I -/
def K410_0 (E : En_) : List Ii_ := [I_aload 3, I_push (0), I_aload 0, I_iload 1, I_iload 2, I_callv [(0, 381)] [0, 0, 1] HS410_5, I_i2l, I_last, I_goto 2]
def K410_1 (E : En_) : List Ii_ := [I_mask [false, false, false, false, false], I_astore 4, I_push (1), I_iret]
def K410_2 (E : En_) : List Ii_ := [I_mask [false, false, false, false, false], I_push (0), I_iret]
def M410 : Mi_ := (⟨"SpiritWallLaw", "neighbour", "(LSpiritWall;II[J)I"⟩, method_14_code, 5, (Option.some Jvm.ClassFile.FieldType.int), [(0, 10, 13, 13)], 14)
def HS411_4 : Hs_ := fun c => if c = 19 then some (some 1) else none
/- V.loopsOf (LSpiritWall;I[J)I -/
def K411_0 (E : En_) : List Ii_ := [I_aload 2, I_push (0), I_aload 0, I_iload 1, I_callv [(0, 382)] [0, 1] HS411_4, I_i2l, I_last, I_goto 2]
def K411_1 (E : En_) : List Ii_ := [I_mask [false, false, false, false], I_astore 3, I_push (1), I_iret]
def K411_2 (E : En_) : List Ii_ := [I_mask [false, false, false, false], I_push (0), I_iret]
def M411 : Mi_ := (⟨"SpiritWallLaw", "loopsOf", "(LSpiritWall;I[J)I"⟩, method_15_code, 4, (Option.some Jvm.ClassFile.FieldType.int), [(0, 9, 12, 13)], 14)
def HS412_4 : Hs_ := fun c => if c = 19 then some (some 1) else none
/- V.closedIf (LSpiritWall;I[J)I -/
def K412_0 (E : En_) : List Ii_ := [I_aload 2, I_push (0), I_aload 0, I_iload 1, I_callv [(0, 383)] [0, 1] HS412_4, I_i2l, I_last, I_goto 2]
def K412_1 (E : En_) : List Ii_ := [I_mask [false, false, false, false], I_astore 3, I_push (1), I_iret]
def K412_2 (E : En_) : List Ii_ := [I_mask [false, false, false, false], I_push (0), I_iret]
def M412 : Mi_ := (⟨"SpiritWallLaw", "closedIf", "(LSpiritWall;I[J)I"⟩, method_16_code, 4, (Option.some Jvm.ClassFile.FieldType.int), [(0, 9, 12, 13)], 14)
def HS413_4 : Hs_ := fun c => if c = 20 then some (some 1) else none
/- V.errorWith (LSpiritWall;I[J)I -/
def K413_0 (E : En_) : List Ii_ := [I_aload 2, I_push (0), I_aload 0, I_iload 1, I_callv [(0, 384)] [0, 1] HS413_4, I_i2l, I_last, I_goto 2]
def K413_1 (E : En_) : List Ii_ := [I_mask [false, false, false, false], I_astore 3, I_push (1), I_iret]
def K413_2 (E : En_) : List Ii_ := [I_mask [false, false, false, false], I_push (0), I_iret]
def M413 : Mi_ := (⟨"SpiritWallLaw", "errorWith", "(LSpiritWall;I[J)I"⟩, method_17_code, 4, (Option.some Jvm.ClassFile.FieldType.int), [(0, 9, 12, 18)], 11)
def HS414_4 : Hs_ := fun c => if c = 20 then some (some 1) else none
/- V.misfitAfter (LSpiritWall;I[J)I -/
def K414_0 (E : En_) : List Ii_ := [I_aload 2, I_push (0), I_aload 0, I_iload 1, I_callv [(0, 385)] [0, 1] HS414_4, I_last, I_goto 2]
def K414_1 (E : En_) : List Ii_ := [I_mask [false, false, false, false], I_astore 3, I_push (1), I_iret]
def K414_2 (E : En_) : List Ii_ := [I_mask [false, false, false, false], I_push (0), I_iret]
def M414 : Mi_ := (⟨"SpiritWallLaw", "misfitAfter", "(LSpiritWall;I[J)I"⟩, method_18_code, 4, (Option.some Jvm.ClassFile.FieldType.int), [(0, 8, 11, 18)], 13)
def HS415_4 : Hs_ := fun c => if c = 19 then some (some 1) else none
/- V.heightIf (LSpiritWall;I[J)I -/
def K415_0 (E : En_) : List Ii_ := [I_aload 2, I_push (0), I_aload 0, I_iload 1, I_callv [(0, 370)] [0, 1] HS415_4, I_i2l, I_last, I_goto 2]
def K415_1 (E : En_) : List Ii_ := [I_mask [false, false, false, false], I_astore 3, I_push (1), I_iret]
def K415_2 (E : En_) : List Ii_ := [I_mask [false, false, false, false], I_push (0), I_iret]
def M415 : Mi_ := (⟨"SpiritWallLaw", "heightIf", "(LSpiritWall;I[J)I"⟩, method_19_code, 4, (Option.some Jvm.ClassFile.FieldType.int), [(0, 9, 12, 13)], 13)
def HS416_11 : Hs_ := fun c => if c = 19 then some (some 1) else if c = 20 then some (some 2) else if c = 21 then some (some 3) else none
/- V.addSight (LSpiritWall;IIIII[J)I -/
def K416_0 (E : En_) : List Ii_ := [I_aload 6, I_push (0), I_aload 0, I_iload 1, I_iload 2, I_iload 3, I_iload 4, I_iload 5, I_callv [(0, 386)] [0, 0, 0, 0, 0, 1] HS416_11, I_i2l, I_last, I_goto 4]
def K416_1 (E : En_) : List Ii_ := [I_mask [false, false, false, false, false, false, false, false], I_astore 7, I_push (1), I_iret]
def K416_2 (E : En_) : List Ii_ := [I_mask [false, false, false, false, false, false, false, false], I_astore 7, I_push (2), I_iret]
def K416_3 (E : En_) : List Ii_ := [I_mask [false, false, false, false, false, false, false, false], I_astore 7, I_push (3), I_iret]
def K416_4 (E : En_) : List Ii_ := [I_mask [false, false, false, false, false, false, false, false], I_push (0), I_iret]
def M416 : Mi_ := (⟨"SpiritWallLaw", "addSight", "(LSpiritWall;IIIII[J)I"⟩, method_20_code, 8, (Option.some Jvm.ClassFile.FieldType.int), [(0, 16, 19, 13), (0, 16, 23, 18), (0, 16, 27, 72)], 12)
def HS417_5 : Hs_ := fun c => if c = 19 then some (some 3) else none
/- V.strike (LSpiritWall;IZ[J)I -/
def K417_0 (E : En_) : List Ii_ := [I_aload 3, I_push (0), I_aload 0, I_iload 1, I_iload 2, I_callv [(0, 388)] [0, 0, 1] HS417_5, I_ifeq 1, I_pushl (1), I_goto 2]
def K417_1 (E : En_) : List Ii_ := [I_mask [false, false, false, false, false], I_pushl (0), I_goto 2]
def K417_2 (E : En_) : List Ii_ := [I_mask [false, false, false, false, false], I_last, I_goto 4]
def K417_3 (E : En_) : List Ii_ := [I_mask [false, false, false, false, false], I_astore 4, I_push (1), I_iret]
def K417_4 (E : En_) : List Ii_ := [I_mask [false, false, false, false, false], I_push (0), I_iret]
def M417 : Mi_ := (⟨"SpiritWallLaw", "strike", "(LSpiritWall;IZ[J)I"⟩, method_21_code, 5, (Option.some Jvm.ClassFile.FieldType.int), [(0, 17, 20, 13)], 11)
def HS418_5 : Hs_ := fun c => if c = 19 then some (some 1) else if c = 20 then some (some 2) else none
/- V.swap (LSpiritWall;II[J)I -/
def K418_0 (E : En_) : List Ii_ := [I_aload 3, I_push (0), I_aload 0, I_iload 1, I_iload 2, I_callv [(0, 389)] [0, 0, 1] HS418_5, I_i2l, I_last, I_goto 3]
def K418_1 (E : En_) : List Ii_ := [I_mask [false, false, false, false, false], I_astore 4, I_push (1), I_iret]
def K418_2 (E : En_) : List Ii_ := [I_mask [false, false, false, false, false], I_astore 4, I_push (2), I_iret]
def K418_3 (E : En_) : List Ii_ := [I_mask [false, false, false, false, false], I_push (0), I_iret]
def M418 : Mi_ := (⟨"SpiritWallLaw", "swap", "(LSpiritWall;II[J)I"⟩, method_22_code, 5, (Option.some Jvm.ClassFile.FieldType.int), [(0, 10, 13, 13), (0, 10, 17, 18)], 11)
def HS419_5 : Hs_ := fun c => if c = 19 then some (some 3) else if c = 20 then some (some 4) else none
/- V.fix (LSpiritWall;II[J)I -/
def K419_0 (E : En_) : List Ii_ := [I_aload 3, I_push (0), I_aload 0, I_iload 1, I_iload 2, I_callv [(0, 390)] [0, 0, 1] HS419_5, I_ifeq 1, I_pushl (1), I_goto 2]
def K419_1 (E : En_) : List Ii_ := [I_mask [false, false, false, false, false], I_pushl (0), I_goto 2]
def K419_2 (E : En_) : List Ii_ := [I_mask [false, false, false, false, false], I_last, I_goto 5]
def K419_3 (E : En_) : List Ii_ := [I_mask [false, false, false, false, false], I_astore 4, I_push (1), I_iret]
def K419_4 (E : En_) : List Ii_ := [I_mask [false, false, false, false, false], I_astore 4, I_push (2), I_iret]
def K419_5 (E : En_) : List Ii_ := [I_mask [false, false, false, false, false], I_push (0), I_iret]
def M419 : Mi_ := (⟨"SpiritWallLaw", "fix", "(LSpiritWall;II[J)I"⟩, method_23_code, 5, (Option.some Jvm.ClassFile.FieldType.int), [(0, 17, 20, 13), (0, 17, 24, 18)], 11)
def HS420_4 : Hs_ := fun c => if c = 19 then some (some 1) else if c = 21 then some (some 2) else none
/- V.free (LSpiritWall;I[J)I -/
def K420_0 (E : En_) : List Ii_ := [I_aload 2, I_push (0), I_aload 0, I_iload 1, I_callv [(0, 391)] [0, 1] HS420_4, I_i2l, I_last, I_goto 3]
def K420_1 (E : En_) : List Ii_ := [I_mask [false, false, false, false], I_astore 3, I_push (1), I_iret]
def K420_2 (E : En_) : List Ii_ := [I_mask [false, false, false, false], I_astore 3, I_push (2), I_iret]
def K420_3 (E : En_) : List Ii_ := [I_mask [false, false, false, false], I_push (0), I_iret]
def M420 : Mi_ := (⟨"SpiritWallLaw", "free", "(LSpiritWall;I[J)I"⟩, method_24_code, 4, (Option.some Jvm.ClassFile.FieldType.int), [(0, 9, 12, 13), (0, 9, 15, 72)], 11)
def HS421_4 : Hs_ := fun c => if c = 20 then some (some 1) else none
/- V.relax (LSpiritWall;I[J)I -/
def K421_0 (E : En_) : List Ii_ := [I_aload 2, I_push (0), I_aload 0, I_iload 1, I_callv [(0, 392)] [0, 1] HS421_4, I_i2l, I_last, I_goto 2]
def K421_1 (E : En_) : List Ii_ := [I_mask [false, false, false, false], I_astore 3, I_push (1), I_iret]
def K421_2 (E : En_) : List Ii_ := [I_mask [false, false, false, false], I_push (0), I_iret]
def M421 : Mi_ := (⟨"SpiritWallLaw", "relax", "(LSpiritWall;I[J)I"⟩, method_25_code, 4, (Option.some Jvm.ClassFile.FieldType.int), [(0, 9, 12, 18)], 14)
def HS422_4 : Hs_ := fun c => if c = 20 then some (some 1) else none
/- V.tellError (LSpiritWall;I[J)I -/
def K422_0 (E : En_) : List Ii_ := [I_aload 2, I_push (0), I_aload 0, I_iload 1, I_callv [(0, 393)] [0, 1] HS422_4, I_i2l, I_last, I_goto 2]
def K422_1 (E : En_) : List Ii_ := [I_mask [false, false, false, false], I_astore 3, I_push (1), I_iret]
def K422_2 (E : En_) : List Ii_ := [I_mask [false, false, false, false], I_push (0), I_iret]
def M422 : Mi_ := (⟨"SpiritWallLaw", "tellError", "(LSpiritWall;I[J)I"⟩, method_26_code, 4, (Option.some Jvm.ClassFile.FieldType.int), [(0, 9, 12, 18)], 12)
def HS423_5 : Hs_ := fun c => if c = 20 then some (some 1) else none
/- V.set (LSpiritWall;II[J)I -/
def K423_0 (E : En_) : List Ii_ := [I_aload 3, I_push (0), I_aload 0, I_iload 1, I_iload 2, I_callv [(0, 394)] [0, 0, 1] HS423_5, I_i2l, I_last, I_goto 2]
def K423_1 (E : En_) : List Ii_ := [I_mask [false, false, false, false, false], I_astore 4, I_push (1), I_iret]
def K423_2 (E : En_) : List Ii_ := [I_mask [false, false, false, false, false], I_push (0), I_iret]
def M423 : Mi_ := (⟨"SpiritWallLaw", "set", "(LSpiritWall;II[J)I"⟩, method_27_code, 5, (Option.some Jvm.ClassFile.FieldType.int), [(0, 10, 13, 18)], 10)
def HS424_3 : Hs_ := fun c => if c = 21 then some (some 1) else none
/- V.undo (LSpiritWall;[J)I -/
def K424_0 (E : En_) : List Ii_ := [I_aload 1, I_push (0), I_aload 0, I_callv [(0, 395)] [1] HS424_3, I_i2l, I_last, I_goto 2]
def K424_1 (E : En_) : List Ii_ := [I_mask [false, false, false], I_astore 2, I_push (1), I_iret]
def K424_2 (E : En_) : List Ii_ := [I_mask [false, false, false], I_push (0), I_iret]
def M424 : Mi_ := (⟨"SpiritWallLaw", "undo", "(LSpiritWall;[J)I"⟩, method_28_code, 3, (Option.some Jvm.ClassFile.FieldType.int), [(0, 8, 11, 72)], 10)
def HS425_4 : Hs_ := fun c => if c = 19 then some (some 1) else none
/- V.printLoop (LSpiritWall;I[J)I -/
def K425_0 (E : En_) : List Ii_ := [I_aload 2, I_push (0), I_aload 0, I_iload 1, I_callv [(0, 396)] [0, 1] HS425_4, I_i2l, I_last, I_goto 2]
def K425_1 (E : En_) : List Ii_ := [I_mask [false, false, false, false], I_astore 3, I_push (1), I_iret]
def K425_2 (E : En_) : List Ii_ := [I_mask [false, false, false, false], I_push (0), I_iret]
def M425 : Mi_ := (⟨"SpiritWallLaw", "printLoop", "(LSpiritWall;I[J)I"⟩, method_29_code, 4, (Option.some Jvm.ClassFile.FieldType.int), [(0, 9, 12, 13)], 14)
def HS426_4 : Hs_ := fun c => if c = 19 then some (some 1) else none
/- V.printSight (LSpiritWall;I[J)I -/
def K426_0 (E : En_) : List Ii_ := [I_aload 2, I_push (0), I_aload 0, I_iload 1, I_callv [(0, 397)] [0, 1] HS426_4, I_i2l, I_last, I_goto 2]
def K426_1 (E : En_) : List Ii_ := [I_mask [false, false, false, false], I_astore 3, I_push (1), I_iret]
def K426_2 (E : En_) : List Ii_ := [I_mask [false, false, false, false], I_push (0), I_iret]
def M426 : Mi_ := (⟨"SpiritWallLaw", "printSight", "(LSpiritWall;I[J)I"⟩, method_30_code, 4, (Option.some Jvm.ClassFile.FieldType.int), [(0, 9, 12, 13)], 11)
def HS427_3 : Hs_ := fun c => if c = 21 then some (some 1) else none
/- V.restoreState (LSpiritWall;[J)I -/
def K427_0 (E : En_) : List Ii_ := [I_aload 1, I_push (0), I_aload 0, I_callv [(0, 398)] [1] HS427_3, I_i2l, I_last, I_goto 2]
def K427_1 (E : En_) : List Ii_ := [I_mask [false, false, false], I_astore 2, I_push (1), I_iret]
def K427_2 (E : En_) : List Ii_ := [I_mask [false, false, false], I_push (0), I_iret]
def M427 : Mi_ := (⟨"SpiritWallLaw", "restoreState", "(LSpiritWall;[J)I"⟩, method_31_code, 3, (Option.some Jvm.ClassFile.FieldType.int), [(0, 8, 11, 72)], 10)
/- V.law ([I)Z -/
def K428_0 (E : En_) : List Ii_ := [I_new 0 [.null, .null, .null, .null, .int 0, .int 0, .int 0, .null], I_dup, I_calli 329 [1] no_, I_astore 1, I_new 10 [.int 0, .null, .null, .null, .null, .null, .null, .int 0, .int 0, .null, .int 0, .null, .null, .null, .null, .null, .null, .int 0, .null, .null, .int 0, .int 0, .int 0, .int 0, .int 0, .int 0, .int 0, .int 0, .int 0, .int 0, .null, .int 0], I_dup, I_calli 93 [1] no_, I_astore 2, I_push (1), I_newa 3, I_astore 3, I_push (0), I_istore 4, I_goto 1]
def K428_1 (E : En_) : List Ii_ := [I_mask [true, true, true, true, true, false, false, false, false], I_iload 4, I_aload 0, I_alen, I_push (6), I_isub, I_icgt 126, I_aload 0, I_iload 4, I_iald, I_push (63), I_iand, I_tsw 0 [2, 3, 4, 5, 6, 7, 8, 9, 10, 13, 14, 17, 20, 23, 26, 29, 32, 35, 38, 41, 42, 43, 44, 45, 48, 49, 52, 55, 56, 59, 62, 65, 66, 69, 72, 75, 76, 79, 88, 91, 96, 99, 100, 103, 106, 107, 110, 113, 114, 117, 120, 121, 122] 125]
def K428_2 (E : En_) : List Ii_ := [I_mask [true, true, true, true, true, false, false, false, false], I_aload 1, I_aload 0, I_iload 4, I_push (1), I_iadd, I_iald, I_aload 0, I_iload 4, I_push (2), I_iadd, I_iald, I_aload 0, I_iload 4, I_push (3), I_iadd, I_iald, I_aload 0, I_iload 4, I_push (4), I_iadd, I_iald, I_aload 0, I_iload 4, I_push (5), I_iadd, I_iald, I_callv [(0, 330)] [0, 0, 0, 0, 0, 1] no_, I_aload 2, I_aload 0, I_iload 4, I_push (1), I_iadd, I_iald, I_aload 0, I_iload 4, I_push (2), I_iadd, I_iald, I_aload 0, I_iload 4, I_push (3), I_iadd, I_iald, I_aload 0, I_iload 4, I_push (4), I_iadd, I_iald, I_aload 0, I_iload 4, I_push (5), I_iadd, I_iald, I_callv [(10, 215)] [0, 0, 0, 0, 0, 1] no_, I_iceq 125, I_push (0), I_nret .boolean]
def K428_3 (E : En_) : List Ii_ := [I_mask [true, true, true, true, true, false, false, false, false], I_aload 1, I_aload 0, I_iload 4, I_push (1), I_iadd, I_iald, I_callv [(0, 332)] [0, 1] no_, I_aload 2, I_aload 0, I_iload 4, I_push (1), I_iadd, I_iald, I_callv [(10, 216)] [0, 1] no_, I_iceq 125, I_push (0), I_nret .boolean]
def K428_4 (E : En_) : List Ii_ := [I_mask [true, true, true, true, true, false, false, false, false], I_aload 1, I_callv [(0, 334)] [1] no_, I_aload 2, I_callv [(10, 220)] [1] no_, I_iceq 125, I_push (0), I_nret .boolean]
def K428_5 (E : En_) : List Ii_ := [I_mask [true, true, true, true, true, false, false, false, false], I_aload 1, I_callv [(0, 335)] [1] no_, I_aload 2, I_callv [(10, 239)] [1] no_, I_iceq 125, I_push (0), I_nret .boolean]
def K428_6 (E : En_) : List Ii_ := [I_mask [true, true, true, true, true, false, false, false, false], I_aload 1, I_callv [(0, 336)] [1] no_, I_aload 2, I_callv [(10, 240)] [1] no_, I_iceq 125, I_push (0), I_nret .boolean]
def K428_7 (E : En_) : List Ii_ := [I_mask [true, true, true, true, true, false, false, false, false], I_aload 1, I_aload 0, I_iload 4, I_push (1), I_iadd, I_iald, I_callv [(0, 337)] [0, 1] no_, I_aload 2, I_aload 0, I_iload 4, I_push (1), I_iadd, I_iald, I_callv [(10, 101)] [0, 1] no_, I_iceq 125, I_push (0), I_nret .boolean]
def K428_8 (E : En_) : List Ii_ := [I_mask [true, true, true, true, true, false, false, false, false], I_aload 1, I_aload 0, I_iload 4, I_push (1), I_iadd, I_iald, I_callv [(0, 341)] [0, 1] no_, I_aload 2, I_aload 0, I_iload 4, I_push (1), I_iadd, I_iald, I_callv [(10, 144)] [0, 1] no_, I_iceq 125, I_push (0), I_nret .boolean]
def K428_9 (E : En_) : List Ii_ := [I_mask [true, true, true, true, true, false, false, false, false], I_aload 1, I_callv [(0, 342)] [1] no_, I_aload 2, I_callv [(10, 146)] [1] no_, I_iceq 125, I_push (0), I_nret .boolean]
def K428_10 (E : En_) : List Ii_ := [I_mask [true, true, true, true, true, false, false, false, false], I_aload 1, I_aload 0, I_iload 4, I_push (1), I_iadd, I_iald, I_aload 0, I_iload 4, I_push (2), I_iadd, I_iald, I_aload 3, I_call 399 [1, 0, 0, 1] no_, I_istore 5, I_aload 2, I_aload 0, I_iload 4, I_push (1), I_iadd, I_iald, I_aload 0, I_iload 4, I_push (2), I_iadd, I_iald, I_callv [(10, 147)] [0, 0, 1] no_, I_istore 6, I_aload 2, I_callv [(10, 95)] [1] no_, I_iload 5, I_iceq 11, I_push (0), I_nret .boolean]
def K428_11 (E : En_) : List Ii_ := [I_mask [true, true, true, true, true, true, true, false, false], I_iload 5, I_ifne 12, I_aload 3, I_push (0), I_lald, I_iload 6, I_i2l, I_lcmp, I_ifeq 12, I_push (0), I_nret .boolean]
def K428_12 (E : En_) : List Ii_ := [I_mask [true, true, true, true, true, false, false, false, false], I_goto 125]
def K428_13 (E : En_) : List Ii_ := [I_mask [true, true, true, true, true, false, false, false, false], I_aload 1, I_callv [(0, 343)] [1] no_, I_aload 2, I_callv [(10, 217)] [1] no_, I_iceq 125, I_push (0), I_nret .boolean]
def K428_14 (E : En_) : List Ii_ := [I_mask [true, true, true, true, true, false, false, false, false], I_aload 1, I_aload 0, I_iload 4, I_push (1), I_iadd, I_iald, I_aload 0, I_iload 4, I_push (2), I_iadd, I_iald, I_aload 3, I_call 400 [1, 0, 0, 1] no_, I_istore 5, I_aload 2, I_aload 0, I_iload 4, I_push (1), I_iadd, I_iald, I_aload 0, I_iload 4, I_push (2), I_iadd, I_iald, I_callv [(10, 150)] [0, 0, 1] no_, I_istore 6, I_aload 2, I_callv [(10, 95)] [1] no_, I_iload 5, I_iceq 15, I_push (0), I_nret .boolean]
def K428_15 (E : En_) : List Ii_ := [I_mask [true, true, true, true, true, true, true, false, false], I_iload 5, I_ifne 16, I_aload 3, I_push (0), I_lald, I_iload 6, I_i2l, I_lcmp, I_ifeq 16, I_push (0), I_nret .boolean]
def K428_16 (E : En_) : List Ii_ := [I_mask [true, true, true, true, true, false, false, false, false], I_goto 125]
def K428_17 (E : En_) : List Ii_ := [I_mask [true, true, true, true, true, false, false, false, false], I_aload 1, I_aload 0, I_iload 4, I_push (1), I_iadd, I_iald, I_aload 3, I_call 401 [1, 0, 1] no_, I_istore 5, I_aload 2, I_aload 0, I_iload 4, I_push (1), I_iadd, I_iald, I_callv [(10, 155)] [0, 1] no_, I_istore 6, I_aload 2, I_callv [(10, 95)] [1] no_, I_iload 5, I_iceq 18, I_push (0), I_nret .boolean]
def K428_18 (E : En_) : List Ii_ := [I_mask [true, true, true, true, true, true, true, false, false], I_iload 5, I_ifne 19, I_aload 3, I_push (0), I_lald, I_iload 6, I_i2l, I_lcmp, I_ifeq 19, I_push (0), I_nret .boolean]
def K428_19 (E : En_) : List Ii_ := [I_mask [true, true, true, true, true, false, false, false, false], I_goto 125]
def K428_20 (E : En_) : List Ii_ := [I_mask [true, true, true, true, true, false, false, false, false], I_aload 1, I_aload 0, I_iload 4, I_push (1), I_iadd, I_iald, I_aload 3, I_call 402 [1, 0, 1] no_, I_istore 5, I_aload 2, I_aload 0, I_iload 4, I_push (1), I_iadd, I_iald, I_callv [(10, 157)] [0, 1] no_, I_istore 6, I_aload 2, I_callv [(10, 95)] [1] no_, I_iload 5, I_iceq 21, I_push (0), I_nret .boolean]
def K428_21 (E : En_) : List Ii_ := [I_mask [true, true, true, true, true, true, true, false, false], I_iload 5, I_ifne 22, I_aload 3, I_push (0), I_lald, I_iload 6, I_i2l, I_lcmp, I_ifeq 22, I_push (0), I_nret .boolean]
def K428_22 (E : En_) : List Ii_ := [I_mask [true, true, true, true, true, false, false, false, false], I_goto 125]
def K428_23 (E : En_) : List Ii_ := [I_mask [true, true, true, true, true, false, false, false, false], I_aload 1, I_aload 0, I_iload 4, I_push (1), I_iadd, I_iald, I_aload 0, I_iload 4, I_push (2), I_iadd, I_iald, I_aload 3, I_call 403 [1, 0, 0, 1] no_, I_istore 5, I_aload 2, I_aload 0, I_iload 4, I_push (1), I_iadd, I_iald, I_aload 0, I_iload 4, I_push (2), I_iadd, I_iald, I_callv [(10, 159)] [0, 0, 1] no_, I_istore 6, I_aload 2, I_callv [(10, 95)] [1] no_, I_iload 5, I_iceq 24, I_push (0), I_nret .boolean]
def K428_24 (E : En_) : List Ii_ := [I_mask [true, true, true, true, true, true, true, false, false], I_iload 5, I_ifne 25, I_aload 3, I_push (0), I_lald, I_iload 6, I_i2l, I_lcmp, I_ifeq 25, I_push (0), I_nret .boolean]
def K428_25 (E : En_) : List Ii_ := [I_mask [true, true, true, true, true, false, false, false, false], I_goto 125]
def K428_26 (E : En_) : List Ii_ := [I_mask [true, true, true, true, true, false, false, false, false], I_aload 1, I_aload 0, I_iload 4, I_push (1), I_iadd, I_iald, I_aload 0, I_iload 4, I_push (2), I_iadd, I_iald, I_aload 3, I_call 404 [1, 0, 0, 1] no_, I_istore 5, I_aload 2, I_aload 0, I_iload 4, I_push (1), I_iadd, I_iald, I_aload 0, I_iload 4, I_push (2), I_iadd, I_iald, I_callv [(10, 161)] [0, 0, 1] no_, I_istore 6, I_aload 2, I_callv [(10, 95)] [1] no_, I_iload 5, I_iceq 27, I_push (0), I_nret .boolean]
def K428_27 (E : En_) : List Ii_ := [I_mask [true, true, true, true, true, true, true, false, false], I_iload 5, I_ifne 28, I_aload 3, I_push (0), I_lald, I_iload 6, I_i2l, I_lcmp, I_ifeq 28, I_push (0), I_nret .boolean]
def K428_28 (E : En_) : List Ii_ := [I_mask [true, true, true, true, true, false, false, false, false], I_goto 125]
def K428_29 (E : En_) : List Ii_ := [I_mask [true, true, true, true, true, false, false, false, false], I_aload 1, I_aload 0, I_iload 4, I_push (1), I_iadd, I_iald, I_aload 0, I_iload 4, I_push (2), I_iadd, I_iald, I_aload 0, I_iload 4, I_push (3), I_iadd, I_iald, I_aload 3, I_call 405 [1, 0, 0, 0, 1] no_, I_istore 5, I_aload 2, I_aload 0, I_iload 4, I_push (1), I_iadd, I_iald, I_aload 0, I_iload 4, I_push (2), I_iadd, I_iald, I_aload 0, I_iload 4, I_push (3), I_iadd, I_iald, I_callv [(10, 162)] [0, 0, 0, 1] no_, I_istore 6, I_aload 2, I_callv [(10, 95)] [1] no_, I_iload 5, I_iceq 30, I_push (0), I_nret .boolean]
def K428_30 (E : En_) : List Ii_ := [I_mask [true, true, true, true, true, true, true, false, false], I_iload 5, I_ifne 31, I_aload 3, I_push (0), I_lald, I_iload 6, I_i2l, I_lcmp, I_ifeq 31, I_push (0), I_nret .boolean]
def K428_31 (E : En_) : List Ii_ := [I_mask [true, true, true, true, true, false, false, false, false], I_goto 125]
def K428_32 (E : En_) : List Ii_ := [I_mask [true, true, true, true, true, false, false, false, false], I_aload 1, I_aload 0, I_iload 4, I_push (1), I_iadd, I_iald, I_aload 0, I_iload 4, I_push (2), I_iadd, I_iald, I_aload 3, I_call 406 [1, 0, 0, 1] no_, I_istore 5, I_aload 2, I_aload 0, I_iload 4, I_push (1), I_iadd, I_iald, I_aload 0, I_iload 4, I_push (2), I_iadd, I_iald, I_callv [(10, 166)] [0, 0, 1] no_, I_istore 6, I_aload 2, I_callv [(10, 95)] [1] no_, I_iload 5, I_iceq 33, I_push (0), I_nret .boolean]
def K428_33 (E : En_) : List Ii_ := [I_mask [true, true, true, true, true, true, true, false, false], I_iload 5, I_ifne 34, I_aload 3, I_push (0), I_lald, I_iload 6, I_i2l, I_lcmp, I_ifeq 34, I_push (0), I_nret .boolean]
def K428_34 (E : En_) : List Ii_ := [I_mask [true, true, true, true, true, false, false, false, false], I_goto 125]
def K428_35 (E : En_) : List Ii_ := [I_mask [true, true, true, true, true, false, false, false, false], I_aload 1, I_aload 0, I_iload 4, I_push (1), I_iadd, I_iald, I_aload 0, I_iload 4, I_push (2), I_iadd, I_iald, I_aload 3, I_call 407 [1, 0, 0, 1] no_, I_istore 5, I_aload 2, I_aload 0, I_iload 4, I_push (1), I_iadd, I_iald, I_aload 0, I_iload 4, I_push (2), I_iadd, I_iald, I_callv [(10, 167)] [0, 0, 1] no_, I_istore 6, I_aload 2, I_callv [(10, 95)] [1] no_, I_iload 5, I_iceq 36, I_push (0), I_nret .boolean]
def K428_36 (E : En_) : List Ii_ := [I_mask [true, true, true, true, true, true, true, false, false], I_iload 5, I_ifne 37, I_aload 3, I_push (0), I_lald, I_iload 6, I_i2l, I_lcmp, I_ifeq 37, I_push (0), I_nret .boolean]
def K428_37 (E : En_) : List Ii_ := [I_mask [true, true, true, true, true, false, false, false, false], I_goto 125]
def K428_38 (E : En_) : List Ii_ := [I_mask [true, true, true, true, true, false, false, false, false], I_aload 1, I_aload 0, I_iload 4, I_push (1), I_iadd, I_iald, I_aload 0, I_iload 4, I_push (2), I_iadd, I_iald, I_aload 3, I_call 408 [1, 0, 0, 1] no_, I_istore 5, I_aload 2, I_aload 0, I_iload 4, I_push (1), I_iadd, I_iald, I_aload 0, I_iload 4, I_push (2), I_iadd, I_iald, I_callv [(10, 170)] [0, 0, 1] no_, I_istore 6, I_aload 2, I_callv [(10, 95)] [1] no_, I_iload 5, I_iceq 39, I_push (0), I_nret .boolean]
def K428_39 (E : En_) : List Ii_ := [I_mask [true, true, true, true, true, true, true, false, false], I_iload 5, I_ifne 40, I_aload 3, I_push (0), I_lald, I_iload 6, I_i2l, I_lcmp, I_ifeq 40, I_push (0), I_nret .boolean]
def K428_40 (E : En_) : List Ii_ := [I_mask [true, true, true, true, true, false, false, false, false], I_goto 125]
def K428_41 (E : En_) : List Ii_ := [I_mask [true, true, true, true, true, false, false, false, false], I_aload 1, I_callv [(0, 344)] [1] no_, I_aload 2, I_callv [(10, 171)] [1] no_, I_iceq 125, I_push (0), I_nret .boolean]
def K428_42 (E : En_) : List Ii_ := [I_mask [true, true, true, true, true, false, false, false, false], I_aload 1, I_callv [(0, 345)] [1] no_, I_aload 2, I_callv [(10, 172)] [1] no_, I_iceq 125, I_push (0), I_nret .boolean]
def K428_43 (E : En_) : List Ii_ := [I_mask [true, true, true, true, true, false, false, false, false], I_aload 1, I_callv [(0, 346)] [1] no_, I_aload 2, I_callv [(10, 173)] [1] no_, I_iceq 125, I_push (0), I_nret .boolean]
def K428_44 (E : En_) : List Ii_ := [I_mask [true, true, true, true, true, false, false, false, false], I_aload 1, I_callv [(0, 347)] [1] no_, I_aload 2, I_callv [(10, 174)] [1] no_, I_lcmp, I_ifeq 125, I_push (0), I_nret .boolean]
def K428_45 (E : En_) : List Ii_ := [I_mask [true, true, true, true, true, false, false, false, false], I_aload 1, I_aload 0, I_iload 4, I_push (1), I_iadd, I_iald, I_aload 3, I_call 409 [1, 0, 1] no_, I_istore 5, I_aload 2, I_aload 0, I_iload 4, I_push (1), I_iadd, I_iald, I_callv [(10, 176)] [0, 1] no_, I_istore 6, I_aload 2, I_callv [(10, 95)] [1] no_, I_iload 5, I_iceq 46, I_push (0), I_nret .boolean]
def K428_46 (E : En_) : List Ii_ := [I_mask [true, true, true, true, true, true, true, false, false], I_iload 5, I_ifne 47, I_aload 3, I_push (0), I_lald, I_iload 6, I_i2l, I_lcmp, I_ifeq 47, I_push (0), I_nret .boolean]
def K428_47 (E : En_) : List Ii_ := [I_mask [true, true, true, true, true, false, false, false, false], I_goto 125]
def K428_48 (E : En_) : List Ii_ := [I_mask [true, true, true, true, true, false, false, false, false], I_aload 1, I_callv [(0, 348)] [1] no_, I_aload 2, I_callv [(10, 178)] [1] no_, I_iceq 125, I_push (0), I_nret .boolean]
def K428_49 (E : En_) : List Ii_ := [I_mask [true, true, true, true, true, false, false, false, false], I_aload 1, I_aload 0, I_iload 4, I_push (1), I_iadd, I_iald, I_aload 0, I_iload 4, I_push (2), I_iadd, I_iald, I_aload 3, I_call 410 [1, 0, 0, 1] no_, I_istore 5, I_aload 2, I_aload 0, I_iload 4, I_push (1), I_iadd, I_iald, I_aload 0, I_iload 4, I_push (2), I_iadd, I_iald, I_callv [(10, 179)] [0, 0, 1] no_, I_istore 6, I_aload 2, I_callv [(10, 95)] [1] no_, I_iload 5, I_iceq 50, I_push (0), I_nret .boolean]
def K428_50 (E : En_) : List Ii_ := [I_mask [true, true, true, true, true, true, true, false, false], I_iload 5, I_ifne 51, I_aload 3, I_push (0), I_lald, I_iload 6, I_i2l, I_lcmp, I_ifeq 51, I_push (0), I_nret .boolean]
def K428_51 (E : En_) : List Ii_ := [I_mask [true, true, true, true, true, false, false, false, false], I_goto 125]
def K428_52 (E : En_) : List Ii_ := [I_mask [true, true, true, true, true, false, false, false, false], I_aload 1, I_aload 0, I_iload 4, I_push (1), I_iadd, I_iald, I_aload 3, I_call 411 [1, 0, 1] no_, I_istore 5, I_aload 2, I_aload 0, I_iload 4, I_push (1), I_iadd, I_iald, I_callv [(10, 180)] [0, 1] no_, I_istore 6, I_aload 2, I_callv [(10, 95)] [1] no_, I_iload 5, I_iceq 53, I_push (0), I_nret .boolean]
def K428_53 (E : En_) : List Ii_ := [I_mask [true, true, true, true, true, true, true, false, false], I_iload 5, I_ifne 54, I_aload 3, I_push (0), I_lald, I_iload 6, I_i2l, I_lcmp, I_ifeq 54, I_push (0), I_nret .boolean]
def K428_54 (E : En_) : List Ii_ := [I_mask [true, true, true, true, true, false, false, false, false], I_goto 125]
def K428_55 (E : En_) : List Ii_ := [I_mask [true, true, true, true, true, false, false, false, false], I_aload 1, I_callv [(0, 349)] [1] no_, I_aload 2, I_callv [(10, 182)] [1] no_, I_iceq 125, I_push (0), I_nret .boolean]
def K428_56 (E : En_) : List Ii_ := [I_mask [true, true, true, true, true, false, false, false, false], I_aload 1, I_callv [(0, 350)] [1] no_, I_dstore 5, I_aload 2, I_callv [(10, 183)] [1] no_, I_dstore 7, I_dload 5, I_dload 7, I_dcmp .l, I_ifeq 58, I_dload 5, I_dload 5, I_dcmp .l, I_ifeq 57, I_dload 7, I_dload 7, I_dcmp .l, I_ifne 58, I_goto 57]
def K428_57 (E : En_) : List Ii_ := [I_mask [false, false, false, false, false, false, false, false, false], I_push (0), I_nret .boolean]
def K428_58 (E : En_) : List Ii_ := [I_mask [true, true, true, true, true, false, false, false, false], I_goto 125]
def K428_59 (E : En_) : List Ii_ := [I_mask [true, true, true, true, true, false, false, false, false], I_aload 1, I_callv [(0, 351)] [1] no_, I_f2d, I_dstore 5, I_aload 2, I_callv [(10, 184)] [1] no_, I_f2d, I_dstore 7, I_dload 5, I_dload 7, I_dcmp .l, I_ifeq 61, I_dload 5, I_dload 5, I_dcmp .l, I_ifeq 60, I_dload 7, I_dload 7, I_dcmp .l, I_ifne 61, I_goto 60]
def K428_60 (E : En_) : List Ii_ := [I_mask [false, false, false, false, false, false, false, false, false], I_push (0), I_nret .boolean]
def K428_61 (E : En_) : List Ii_ := [I_mask [true, true, true, true, true, false, false, false, false], I_goto 125]
def K428_62 (E : En_) : List Ii_ := [I_mask [true, true, true, true, true, false, false, false, false], I_aload 1, I_aload 0, I_iload 4, I_push (1), I_iadd, I_iald, I_aload 3, I_call 412 [1, 0, 1] no_, I_istore 5, I_aload 2, I_aload 0, I_iload 4, I_push (1), I_iadd, I_iald, I_callv [(10, 185)] [0, 1] no_, I_istore 6, I_aload 2, I_callv [(10, 95)] [1] no_, I_iload 5, I_iceq 63, I_push (0), I_nret .boolean]
def K428_63 (E : En_) : List Ii_ := [I_mask [true, true, true, true, true, true, true, false, false], I_iload 5, I_ifne 64, I_aload 3, I_push (0), I_lald, I_iload 6, I_i2l, I_lcmp, I_ifeq 64, I_push (0), I_nret .boolean]
def K428_64 (E : En_) : List Ii_ := [I_mask [true, true, true, true, true, false, false, false, false], I_goto 125]
def K428_65 (E : En_) : List Ii_ := [I_mask [true, true, true, true, true, false, false, false, false], I_aload 1, I_callv [(0, 352)] [1] no_, I_aload 2, I_callv [(10, 188)] [1] no_, I_iceq 125, I_push (0), I_nret .boolean]
def K428_66 (E : En_) : List Ii_ := [I_mask [true, true, true, true, true, false, false, false, false], I_aload 1, I_aload 0, I_iload 4, I_push (1), I_iadd, I_iald, I_aload 3, I_call 413 [1, 0, 1] no_, I_istore 5, I_aload 2, I_aload 0, I_iload 4, I_push (1), I_iadd, I_iald, I_callv [(10, 189)] [0, 1] no_, I_istore 6, I_aload 2, I_callv [(10, 95)] [1] no_, I_iload 5, I_iceq 67, I_push (0), I_nret .boolean]
def K428_67 (E : En_) : List Ii_ := [I_mask [true, true, true, true, true, true, true, false, false], I_iload 5, I_ifne 68, I_aload 3, I_push (0), I_lald, I_iload 6, I_i2l, I_lcmp, I_ifeq 68, I_push (0), I_nret .boolean]
def K428_68 (E : En_) : List Ii_ := [I_mask [true, true, true, true, true, false, false, false, false], I_goto 125]
def K428_69 (E : En_) : List Ii_ := [I_mask [true, true, true, true, true, false, false, false, false], I_aload 1, I_aload 0, I_iload 4, I_push (1), I_iadd, I_iald, I_aload 3, I_call 414 [1, 0, 1] no_, I_istore 5, I_aload 2, I_aload 0, I_iload 4, I_push (1), I_iadd, I_iald, I_callv [(10, 190)] [0, 1] no_, I_lstore 6, I_aload 2, I_callv [(10, 95)] [1] no_, I_iload 5, I_iceq 70, I_push (0), I_nret .boolean]
def K428_70 (E : En_) : List Ii_ := [I_mask [true, true, true, true, true, true, true, false, false], I_iload 5, I_ifne 71, I_aload 3, I_push (0), I_lald, I_lload 6, I_lcmp, I_ifeq 71, I_push (0), I_nret .boolean]
def K428_71 (E : En_) : List Ii_ := [I_mask [true, true, true, true, true, false, false, false, false], I_goto 125]
def K428_72 (E : En_) : List Ii_ := [I_mask [true, true, true, true, true, false, false, false, false], I_aload 1, I_aload 0, I_iload 4, I_push (1), I_iadd, I_iald, I_aload 3, I_call 415 [1, 0, 1] no_, I_istore 5, I_aload 2, I_aload 0, I_iload 4, I_push (1), I_iadd, I_iald, I_callv [(10, 198)] [0, 1] no_, I_istore 6, I_aload 2, I_callv [(10, 95)] [1] no_, I_iload 5, I_iceq 73, I_push (0), I_nret .boolean]
def K428_73 (E : En_) : List Ii_ := [I_mask [true, true, true, true, true, true, true, false, false], I_iload 5, I_ifne 74, I_aload 3, I_push (0), I_lald, I_iload 6, I_i2l, I_lcmp, I_ifeq 74, I_push (0), I_nret .boolean]
def K428_74 (E : En_) : List Ii_ := [I_mask [true, true, true, true, true, false, false, false, false], I_goto 125]
def K428_75 (E : En_) : List Ii_ := [I_mask [true, true, true, true, true, false, false, false, false], I_aload 1, I_callv [(0, 354)] [1] no_, I_aload 2, I_callv [(10, 199)] [1] no_, I_iceq 125, I_push (0), I_nret .boolean]
def K428_76 (E : En_) : List Ii_ := [I_mask [true, true, true, true, true, false, false, false, false], I_aload 1, I_aload 0, I_iload 4, I_push (1), I_iadd, I_iald, I_aload 0, I_iload 4, I_push (2), I_iadd, I_iald, I_aload 0, I_iload 4, I_push (3), I_iadd, I_iald, I_aload 0, I_iload 4, I_push (4), I_iadd, I_iald, I_aload 0, I_iload 4, I_push (5), I_iadd, I_iald, I_aload 3, I_call 416 [1, 0, 0, 0, 0, 0, 1] no_, I_istore 5, I_aload 2, I_aload 0, I_iload 4, I_push (1), I_iadd, I_iald, I_aload 0, I_iload 4, I_push (2), I_iadd, I_iald, I_aload 0, I_iload 4, I_push (3), I_iadd, I_iald, I_aload 0, I_iload 4, I_push (4), I_iadd, I_iald, I_aload 0, I_iload 4, I_push (5), I_iadd, I_iald, I_callv [(10, 200)] [0, 0, 0, 0, 0, 1] no_, I_istore 6, I_aload 2, I_callv [(10, 95)] [1] no_, I_iload 5, I_iceq 77, I_push (0), I_nret .boolean]
def K428_77 (E : En_) : List Ii_ := [I_mask [true, true, true, true, true, true, true, false, false], I_iload 5, I_ifne 78, I_aload 3, I_push (0), I_lald, I_iload 6, I_i2l, I_lcmp, I_ifeq 78, I_push (0), I_nret .boolean]
def K428_78 (E : En_) : List Ii_ := [I_mask [true, true, true, true, true, false, false, false, false], I_goto 125]
def K428_79 (E : En_) : List Ii_ := [I_mask [true, true, true, true, true, false, false, false, false], I_aload 1, I_aload 0, I_iload 4, I_push (1), I_iadd, I_iald, I_aload 0, I_iload 4, I_push (2), I_iadd, I_iald, I_ifeq 80, I_push (1), I_goto 81]
def K428_80 (E : En_) : List Ii_ := [I_mask [true, true, true, true, true, false, false, false, false], I_push (0), I_goto 81]
def K428_81 (E : En_) : List Ii_ := [I_mask [true, true, true, true, true, false, false, false, false], I_aload 3, I_call 417 [1, 0, 0, 1] no_, I_istore 5, I_aload 2, I_aload 0, I_iload 4, I_push (1), I_iadd, I_iald, I_aload 0, I_iload 4, I_push (2), I_iadd, I_iald, I_ifeq 82, I_push (1), I_goto 83]
def K428_82 (E : En_) : List Ii_ := [I_mask [true, true, true, true, true, true, false, false, false], I_push (0), I_goto 83]
def K428_83 (E : En_) : List Ii_ := [I_mask [true, true, true, true, true, true, false, false, false], I_callv [(10, 205)] [0, 0, 1] no_, I_istore 6, I_aload 2, I_callv [(10, 95)] [1] no_, I_iload 5, I_iceq 84, I_push (0), I_nret .boolean]
def K428_84 (E : En_) : List Ii_ := [I_mask [true, true, true, true, true, true, true, false, false], I_iload 5, I_ifne 87, I_aload 3, I_push (0), I_lald, I_iload 6, I_ifeq 85, I_pushl (1), I_goto 86]
def K428_85 (E : En_) : List Ii_ := [I_mask [true, true, true, true, true, false, false, false, false], I_pushl (0), I_goto 86]
def K428_86 (E : En_) : List Ii_ := [I_mask [true, true, true, true, true, false, false, false, false], I_lcmp, I_ifeq 87, I_push (0), I_nret .boolean]
def K428_87 (E : En_) : List Ii_ := [I_mask [true, true, true, true, true, false, false, false, false], I_goto 125]
def K428_88 (E : En_) : List Ii_ := [I_mask [true, true, true, true, true, false, false, false, false], I_aload 1, I_aload 0, I_iload 4, I_push (1), I_iadd, I_iald, I_aload 0, I_iload 4, I_push (2), I_iadd, I_iald, I_aload 3, I_call 418 [1, 0, 0, 1] no_, I_istore 5, I_aload 2, I_aload 0, I_iload 4, I_push (1), I_iadd, I_iald, I_aload 0, I_iload 4, I_push (2), I_iadd, I_iald, I_callv [(10, 206)] [0, 0, 1] no_, I_istore 6, I_aload 2, I_callv [(10, 95)] [1] no_, I_iload 5, I_iceq 89, I_push (0), I_nret .boolean]
def K428_89 (E : En_) : List Ii_ := [I_mask [true, true, true, true, true, true, true, false, false], I_iload 5, I_ifne 90, I_aload 3, I_push (0), I_lald, I_iload 6, I_i2l, I_lcmp, I_ifeq 90, I_push (0), I_nret .boolean]
def K428_90 (E : En_) : List Ii_ := [I_mask [true, true, true, true, true, false, false, false, false], I_goto 125]
def K428_91 (E : En_) : List Ii_ := [I_mask [true, true, true, true, true, false, false, false, false], I_aload 1, I_aload 0, I_iload 4, I_push (1), I_iadd, I_iald, I_aload 0, I_iload 4, I_push (2), I_iadd, I_iald, I_aload 3, I_call 419 [1, 0, 0, 1] no_, I_istore 5, I_aload 2, I_aload 0, I_iload 4, I_push (1), I_iadd, I_iald, I_aload 0, I_iload 4, I_push (2), I_iadd, I_iald, I_callv [(10, 207)] [0, 0, 1] no_, I_istore 6, I_aload 2, I_callv [(10, 95)] [1] no_, I_iload 5, I_iceq 92, I_push (0), I_nret .boolean]
def K428_92 (E : En_) : List Ii_ := [I_mask [true, true, true, true, true, true, true, false, false], I_iload 5, I_ifne 95, I_aload 3, I_push (0), I_lald, I_iload 6, I_ifeq 93, I_pushl (1), I_goto 94]
def K428_93 (E : En_) : List Ii_ := [I_mask [true, true, true, true, true, false, false, false, false], I_pushl (0), I_goto 94]
def K428_94 (E : En_) : List Ii_ := [I_mask [true, true, true, true, true, false, false, false, false], I_lcmp, I_ifeq 95, I_push (0), I_nret .boolean]
def K428_95 (E : En_) : List Ii_ := [I_mask [true, true, true, true, true, false, false, false, false], I_goto 125]
def K428_96 (E : En_) : List Ii_ := [I_mask [true, true, true, true, true, false, false, false, false], I_aload 1, I_aload 0, I_iload 4, I_push (1), I_iadd, I_iald, I_aload 3, I_call 420 [1, 0, 1] no_, I_istore 5, I_aload 2, I_aload 0, I_iload 4, I_push (1), I_iadd, I_iald, I_callv [(10, 208)] [0, 1] no_, I_istore 6, I_aload 2, I_callv [(10, 95)] [1] no_, I_iload 5, I_iceq 97, I_push (0), I_nret .boolean]
def K428_97 (E : En_) : List Ii_ := [I_mask [true, true, true, true, true, true, true, false, false], I_iload 5, I_ifne 98, I_aload 3, I_push (0), I_lald, I_iload 6, I_i2l, I_lcmp, I_ifeq 98, I_push (0), I_nret .boolean]
def K428_98 (E : En_) : List Ii_ := [I_mask [true, true, true, true, true, false, false, false, false], I_goto 125]
def K428_99 (E : En_) : List Ii_ := [I_mask [true, true, true, true, true, false, false, false, false], I_aload 1, I_callv [(0, 355)] [1] no_, I_aload 2, I_callv [(10, 209)] [1] no_, I_iceq 125, I_push (0), I_nret .boolean]
def K428_100 (E : En_) : List Ii_ := [I_mask [true, true, true, true, true, false, false, false, false], I_aload 1, I_aload 0, I_iload 4, I_push (1), I_iadd, I_iald, I_aload 3, I_call 421 [1, 0, 1] no_, I_istore 5, I_aload 2, I_aload 0, I_iload 4, I_push (1), I_iadd, I_iald, I_callv [(10, 210)] [0, 1] no_, I_istore 6, I_aload 2, I_callv [(10, 95)] [1] no_, I_iload 5, I_iceq 101, I_push (0), I_nret .boolean]
def K428_101 (E : En_) : List Ii_ := [I_mask [true, true, true, true, true, true, true, false, false], I_iload 5, I_ifne 102, I_aload 3, I_push (0), I_lald, I_iload 6, I_i2l, I_lcmp, I_ifeq 102, I_push (0), I_nret .boolean]
def K428_102 (E : En_) : List Ii_ := [I_mask [true, true, true, true, true, false, false, false, false], I_goto 125]
def K428_103 (E : En_) : List Ii_ := [I_mask [true, true, true, true, true, false, false, false, false], I_aload 1, I_aload 0, I_iload 4, I_push (1), I_iadd, I_iald, I_aload 3, I_call 422 [1, 0, 1] no_, I_istore 5, I_aload 2, I_aload 0, I_iload 4, I_push (1), I_iadd, I_iald, I_callv [(10, 211)] [0, 1] no_, I_istore 6, I_aload 2, I_callv [(10, 95)] [1] no_, I_iload 5, I_iceq 104, I_push (0), I_nret .boolean]
def K428_104 (E : En_) : List Ii_ := [I_mask [true, true, true, true, true, true, true, false, false], I_iload 5, I_ifne 105, I_aload 3, I_push (0), I_lald, I_iload 6, I_i2l, I_lcmp, I_ifeq 105, I_push (0), I_nret .boolean]
def K428_105 (E : En_) : List Ii_ := [I_mask [true, true, true, true, true, false, false, false, false], I_goto 125]
def K428_106 (E : En_) : List Ii_ := [I_mask [true, true, true, true, true, false, false, false, false], I_aload 1, I_callv [(0, 357)] [1] no_, I_aload 2, I_callv [(10, 212)] [1] no_, I_iceq 125, I_push (0), I_nret .boolean]
def K428_107 (E : En_) : List Ii_ := [I_mask [true, true, true, true, true, false, false, false, false], I_aload 1, I_aload 0, I_iload 4, I_push (1), I_iadd, I_iald, I_aload 0, I_iload 4, I_push (2), I_iadd, I_iald, I_aload 3, I_call 423 [1, 0, 0, 1] no_, I_istore 5, I_aload 2, I_aload 0, I_iload 4, I_push (1), I_iadd, I_iald, I_aload 0, I_iload 4, I_push (2), I_iadd, I_iald, I_callv [(10, 213)] [0, 0, 1] no_, I_istore 6, I_aload 2, I_callv [(10, 95)] [1] no_, I_iload 5, I_iceq 108, I_push (0), I_nret .boolean]
def K428_108 (E : En_) : List Ii_ := [I_mask [true, true, true, true, true, true, true, false, false], I_iload 5, I_ifne 109, I_aload 3, I_push (0), I_lald, I_iload 6, I_i2l, I_lcmp, I_ifeq 109, I_push (0), I_nret .boolean]
def K428_109 (E : En_) : List Ii_ := [I_mask [true, true, true, true, true, false, false, false, false], I_goto 125]
def K428_110 (E : En_) : List Ii_ := [I_mask [true, true, true, true, true, false, false, false, false], I_aload 1, I_aload 3, I_call 424 [1, 1] no_, I_istore 5, I_aload 2, I_callv [(10, 96)] [1] no_, I_istore 6, I_aload 2, I_callv [(10, 95)] [1] no_, I_iload 5, I_iceq 111, I_push (0), I_nret .boolean]
def K428_111 (E : En_) : List Ii_ := [I_mask [true, true, true, true, true, true, true, false, false], I_iload 5, I_ifne 112, I_aload 3, I_push (0), I_lald, I_iload 6, I_i2l, I_lcmp, I_ifeq 112, I_push (0), I_nret .boolean]
def K428_112 (E : En_) : List Ii_ := [I_mask [true, true, true, true, true, false, false, false, false], I_goto 125]
def K428_113 (E : En_) : List Ii_ := [I_mask [true, true, true, true, true, false, false, false, false], I_aload 1, I_callv [(0, 358)] [1] no_, I_aload 2, I_callv [(10, 241)] [1] no_, I_iceq 125, I_push (0), I_nret .boolean]
def K428_114 (E : En_) : List Ii_ := [I_mask [true, true, true, true, true, false, false, false, false], I_aload 1, I_aload 0, I_iload 4, I_push (1), I_iadd, I_iald, I_aload 3, I_call 425 [1, 0, 1] no_, I_istore 5, I_aload 2, I_aload 0, I_iload 4, I_push (1), I_iadd, I_iald, I_callv [(10, 244)] [0, 1] no_, I_istore 6, I_aload 2, I_callv [(10, 95)] [1] no_, I_iload 5, I_iceq 115, I_push (0), I_nret .boolean]
def K428_115 (E : En_) : List Ii_ := [I_mask [true, true, true, true, true, true, true, false, false], I_iload 5, I_ifne 116, I_aload 3, I_push (0), I_lald, I_iload 6, I_i2l, I_lcmp, I_ifeq 116, I_push (0), I_nret .boolean]
def K428_116 (E : En_) : List Ii_ := [I_mask [true, true, true, true, true, false, false, false, false], I_goto 125]
def K428_117 (E : En_) : List Ii_ := [I_mask [true, true, true, true, true, false, false, false, false], I_aload 1, I_aload 0, I_iload 4, I_push (1), I_iadd, I_iald, I_aload 3, I_call 426 [1, 0, 1] no_, I_istore 5, I_aload 2, I_aload 0, I_iload 4, I_push (1), I_iadd, I_iald, I_callv [(10, 245)] [0, 1] no_, I_istore 6, I_aload 2, I_callv [(10, 95)] [1] no_, I_iload 5, I_iceq 118, I_push (0), I_nret .boolean]
def K428_118 (E : En_) : List Ii_ := [I_mask [true, true, true, true, true, true, true, false, false], I_iload 5, I_ifne 119, I_aload 3, I_push (0), I_lald, I_iload 6, I_i2l, I_lcmp, I_ifeq 119, I_push (0), I_nret .boolean]
def K428_119 (E : En_) : List Ii_ := [I_mask [true, true, true, true, true, false, false, false, false], I_goto 125]
def K428_120 (E : En_) : List Ii_ := [I_mask [true, true, true, true, true, false, false, false, false], I_aload 1, I_aload 0, I_iload 4, I_push (1), I_iadd, I_iald, I_callv [(0, 359)] [0, 1] no_, I_aload 2, I_aload 0, I_iload 4, I_push (1), I_iadd, I_iald, I_callv [(10, 247)] [0, 1] no_, I_iceq 125, I_push (0), I_nret .boolean]
def K428_121 (E : En_) : List Ii_ := [I_mask [true, true, true, true, true, false, false, false, false], I_aload 1, I_callv [(0, 360)] [1] no_, I_aload 2, I_callv [(10, 98)] [1] no_, I_iceq 125, I_push (0), I_nret .boolean]
def K428_122 (E : En_) : List Ii_ := [I_mask [true, true, true, true, true, false, false, false, false], I_aload 1, I_aload 3, I_call 427 [1, 1] no_, I_istore 5, I_aload 2, I_callv [(10, 100)] [1] no_, I_istore 6, I_aload 2, I_callv [(10, 95)] [1] no_, I_iload 5, I_iceq 123, I_push (0), I_nret .boolean]
def K428_123 (E : En_) : List Ii_ := [I_mask [true, true, true, true, true, true, true, false, false], I_iload 5, I_ifne 124, I_aload 3, I_push (0), I_lald, I_iload 6, I_i2l, I_lcmp, I_ifeq 124, I_push (0), I_nret .boolean]
def K428_124 (E : En_) : List Ii_ := [I_mask [true, true, true, true, true, false, false, false, false], I_goto 125]
def K428_125 (E : En_) : List Ii_ := [I_mask [true, true, true, true, true, false, false, false, false], I_iinc 4 (6), I_goto 1]
def K428_126 (E : En_) : List Ii_ := [I_mask [false, false, false, false, false, false, false, false, false], I_push (1), I_nret .boolean]
def M428 : Mi_ := (⟨"SpiritWallLaw", "law", "([I)Z"⟩, code, 9, (Option.some Jvm.ClassFile.FieldType.boolean), [], 22)
/- T.walks (III)Z -/
def K1000_0 (E : En_) (j : Nat) : List Ii_ := [I_aload 0, I_getf [(10, 16)], I_aload 0, I_getf [(10, 17)], I_iload 1, I_iast, I_aload 0, I_aload 0, I_getf [(10, 17)], I_push (1), I_iadd, I_putf [(10, 17)] (.int), I_iload 1, I_iload 2, I_icne 1, I_push (1), I_nret .boolean]
def K1000_1 (E : En_) (j : Nat) : List Ii_ := [I_mask [true, true, true, true, false], I_push (0), I_istore 4, I_goto 2]
def K1000_2 (E : En_) (j : Nat) : List Ii_ := [I_iload 4, I_aload 0, I_callv [(10, 106)] [1] no_, I_icge 4, I_iload 4, I_iload 3, I_iceq 3, I_iload 4, I_iload 1, I_iceq 3, I_aload 0, I_getf [(10, 14)], I_iload 1, I_iload 4, I_call 116 [0, 0] no_, I_bald, I_ifeq 3, I_aload 0, I_iload 4, I_iload 2, I_iload 1, (if j < 12 then I_callv [(10, 1000 + j + 1)] [0, 0, 0, 1] no_ else I_stuck), I_ifeq 3, I_push (1), I_nret .boolean]
def K1000_3 (E : En_) (j : Nat) : List Ii_ := [I_iinc 4 (1), I_goto 2]
def K1000_4 (E : En_) (j : Nat) : List Ii_ := [I_mask [true, false, false, false, false], I_aload 0, I_aload 0, I_getf [(10, 17)], I_push (1), I_isub, I_putf [(10, 17)] (.int), I_push (0), I_nret .boolean]
def M1000 (j : Nat) : Mi_ := (⟨"SpiritWallModel", "walks", "(III)Z"⟩, prog_12_method_48_code, 5, (Option.some Jvm.ClassFile.FieldType.boolean), [], 14 - min j 12)
/- T.saysDigits (I)V -/
def K1100_0 (E : En_) (j : Nat) : List Ii_ := [I_iload 1, I_push (9), I_icle 1, I_aload 0, I_iload 1, I_push (10), I_idiv, (if j < 10 then I_callv [(10, 1100 + j + 1)] [0, 1] no_ else I_stuck), I_goto 1]
def K1100_1 (E : En_) (j : Nat) : List Ii_ := [I_aload 0, I_push (48), I_iload 1, I_push (10), I_irem, I_iadd, I_callv [(10, 242)] [0, 1] no_, I_vret]
def M1100 (j : Nat) : Mi_ := (⟨"SpiritWallModel", "saysDigits", "(I)V"⟩, prog_12_method_151_code, 2, (Option.none : Option Jvm.ClassFile.FieldType), [], 12 - min j 10)
/- T.saysLetters (I)V -/
def K1200_0 (E : En_) (j : Nat) : List Ii_ := [I_iload 1, I_push (26), I_icle 1, I_aload 0, I_iload 1, I_push (27), I_idiv, (if j < 6 then I_callv [(10, 1200 + j + 1)] [0, 1] no_ else I_stuck), I_goto 1]
def K1200_1 (E : En_) (j : Nat) : List Ii_ := [I_aload 0, I_push (97), I_iload 1, I_push (27), I_irem, I_iadd, I_push (1), I_isub, I_callv [(10, 242)] [0, 1] no_, I_vret]
def M1200 (j : Nat) : Mi_ := (⟨"SpiritWallModel", "saysLetters", "(I)V"⟩, prog_12_method_153_code, 2, (Option.none : Option Jvm.ClassFile.FieldType), [], 8 - min j 6)
def mtc_0 : List Mi_ := [M0, M1, M2, M3, M4, M5, M6, M7, M8, M9, M10, M11, M12, M13, M14, M15, M16, M17, M18, M19]
def bpc_0 : List (List Nat) := [[0], [0, 11, 12], [0], [0, 23, 30, 52, 80, 86, 99, 115, 124], [0, 12], [0, 17, 21, 22], [0], [0], [0], [0, 12, 13], [0], [0], [0, 19, 26, 44, 50], [0, 21], [0, 27], [0, 21], [0, 14], [0, 10, 17], [0], [0, 37]]
def blc_0 (E : En_) : List (List (List Ii_)) := [[K0_0 E], [K1_0 E, K1_1 E, K1_2 E], [K2_0 E], [K3_0 E, K3_1 E, K3_2 E, K3_3 E, K3_4 E, K3_5 E, K3_6 E, K3_7 E, K3_8 E], [K4_0 E, K4_1 E], [K5_0 E, K5_1 E, K5_2 E, K5_3 E], [K6_0 E], [K7_0 E], [K8_0 E], [K9_0 E, K9_1 E, K9_2 E], [K10_0 E], [K11_0 E], [K12_0 E, K12_1 E, K12_2 E, K12_3 E, K12_4 E], [K13_0 E, K13_1 E], [K14_0 E, K14_1 E], [K15_0 E, K15_1 E], [K16_0 E, K16_1 E], [K17_0 E, K17_1 E, K17_2 E], [K18_0 E], [K19_0 E, K19_1 E]]
def mtc_1 : List Mi_ := [M20, M21, M22, M23, M24, M25, M26, M27, M28, M29, M30, M31, M32, M33, M34, M35, M36, M37, M38, M39]
def bpc_1 : List (List Nat) := [[0], [0, 13, 24], [0, 11, 12], [0, 9, 26, 32, 34], [0], [0], [0], [0], [0], [0], [0, 12, 25], [0], [0, 11], [0], [0, 20, 45], [0, 38], [0, 11, 12], [0, 9, 16], [0, 36, 41, 60], [0]]
def blc_1 (E : En_) : List (List (List Ii_)) := [[K20_0 E], [K21_0 E, K21_1 E, K21_2 E], [K22_0 E, K22_1 E, K22_2 E], [K23_0 E, K23_1 E, K23_2 E, K23_3 E, K23_4 E], [K24_0 E], [K25_0 E], [K26_0 E], [K27_0 E], [K28_0 E], [K29_0 E], [K30_0 E, K30_1 E, K30_2 E], [K31_0 E], [K32_0 E, K32_1 E], [K33_0 E], [K34_0 E, K34_1 E, K34_2 E], [K35_0 E, K35_1 E], [K36_0 E, K36_1 E, K36_2 E], [K37_0 E, K37_1 E, K37_2 E], [K38_0 E, K38_1 E, K38_2 E, K38_3 E], [K39_0 E]]
def mtc_2 : List Mi_ := [M40, M41, M42, M43, M44, M45, M46, M47, M48, M49, M50, M51, M52, M53, M54, M55, M56, M57, M58, M59]
def bpc_2 : List (List Nat) := [[0], [0, 11, 16, 31, 42], [0, 11, 12, 22, 72, 104, 118], [0], [0, 23], [0], [0], [0, 18, 19], [0, 28, 50], [0, 22], [0], [0], [0], [0], [0, 33, 38], [0, 5, 34], [0, 17], [0, 37, 42], [0], [0, 17]]
def blc_2 (E : En_) : List (List (List Ii_)) := [[K40_0 E], [K41_0 E, K41_1 E, K41_2 E, K41_3 E, K41_4 E], [K42_0 E, K42_1 E, K42_2 E, K42_3 E, K42_4 E, K42_5 E, K42_6 E], [K43_0 E], [K44_0 E, K44_1 E], [K45_0 E], [K46_0 E], [K47_0 E, K47_1 E, K47_2 E], [K48_0 E, K48_1 E, K48_2 E], [K49_0 E, K49_1 E], [K50_0 E], [K51_0 E], [K52_0 E], [K53_0 E], [K54_0 E, K54_1 E, K54_2 E], [K55_0 E, K55_1 E, K55_2 E], [K56_0 E, K56_1 E], [K57_0 E, K57_1 E, K57_2 E], [K58_0 E], [K59_0 E, K59_1 E]]
def mtc_3 : List Mi_ := [M60, M61, M62, M63, M64, M65, M66, M67, M68, M69, M70, M71, M72, M73, M74, M75, M76, M77, M78, M79]
def bpc_3 : List (List Nat) := [[0, 37, 42], [0, 25, 38], [0, 45, 56, 75], [0, 38], [0, 51], [0, 17, 18], [0], [0], [0, 37, 48], [0, 9], [0], [0, 21], [0, 13, 48, 63, 76], [0, 42], [0], [0], [0], [0], [0], [0]]
def blc_3 (E : En_) : List (List (List Ii_)) := [[K60_0 E, K60_1 E, K60_2 E], [K61_0 E, K61_1 E, K61_2 E], [K62_0 E, K62_1 E, K62_2 E, K62_3 E], [K63_0 E, K63_1 E], [K64_0 E, K64_1 E], [K65_0 E, K65_1 E, K65_2 E], [K66_0 E], [K67_0 E], [K68_0 E, K68_1 E, K68_2 E], [K69_0 E, K69_1 E], [K70_0 E], [K71_0 E, K71_1 E], [K72_0 E, K72_1 E, K72_2 E, K72_3 E, K72_4 E], [K73_0 E, K73_1 E], [K74_0 E], [K75_0 E], [K76_0 E], [K77_0 E], [K78_0 E], [K79_0 E]]
def mtc_4 : List Mi_ := [M80, M81, M82, M83, M84, M85, M86, M87, M88, M89, M90, M91, M92, M93, M94, M95, M96, M97, M98, M99]
def bpc_4 : List (List Nat) := [[0], [0], [0], [0], [0, 41, 79, 97], [0], [0, 13, 14], [0, 28, 43], [0, 7, 36, 54, 55], [0, 16], [0, 17, 18], [0], [0], [0], [0, 2, 22], [0], [0, 12, 13, 21, 33, 67], [0, 9, 10], [0], [0, 2, 21]]
def blc_4 (E : En_) : List (List (List Ii_)) := [[K80_0 E], [K81_0 E], [K82_0 E], [K83_0 E], [K84_0 E, K84_1 E, K84_2 E, K84_3 E], [K85_0 E], [K86_0 E, K86_1 E, K86_2 E], [K87_0 E, K87_1 E, K87_2 E], [K88_0 E, K88_1 E, K88_2 E, K88_3 E, K88_4 E], [K89_0 E, K89_1 E], [K90_0 E, K90_1 E, K90_2 E], [K91_0 E], [K92_0 E], [K93_0 E], [K94_0 E, K94_1 E, K94_2 E], [K95_0 E], [K96_0 E, K96_1 E, K96_2 E, K96_3 E, K96_4 E, K96_5 E], [K97_0 E, K97_1 E, K97_2 E], [K98_0 E], [K99_0 E, K99_1 E, K99_2 E]]
def mtc_5 : List Mi_ := [M100, M101, M102, M103, M104, M105, M106, M107, M108, M109, M110, M111, M112, M113, M114, M115, M116, M117, M118, M119]
def bpc_5 : List (List Nat) := [[0, 13], [0, 68, 73, 78, 83, 88, 93, 98, 103, 108, 113, 118, 123], [0, 6, 27, 32, 64], [0, 10, 44, 46, 65, 112, 118, 120, 126, 128, 140, 166, 209, 215, 221], [0, 21, 25], [0, 4, 16, 42, 45, 86, 99, 105, 111, 119, 129], [0], [0, 14, 17, 31, 66, 84, 91, 113, 114, 132, 146, 152, 162, 165], [0, 16, 17], [0], [0], [0], [0], [0, 13, 14], [0], [0], [0, 14, 20], [0, 19, 20], [0], [0]]
def blc_5 (E : En_) : List (List (List Ii_)) := [[K100_0 E, K100_1 E], [K101_0 E, K101_1 E, K101_2 E, K101_3 E, K101_4 E, K101_5 E, K101_6 E, K101_7 E, K101_8 E, K101_9 E, K101_10 E, K101_11 E, K101_12 E], [K102_0 E, K102_1 E, K102_2 E, K102_3 E, K102_4 E], [K103_0 E, K103_1 E, K103_2 E, K103_3 E, K103_4 E, K103_5 E, K103_6 E, K103_7 E, K103_8 E, K103_9 E, K103_10 E, K103_11 E, K103_12 E, K103_13 E, K103_14 E], [K104_0 E, K104_1 E, K104_2 E], [K105_0 E, K105_1 E, K105_2 E, K105_3 E, K105_4 E, K105_5 E, K105_6 E, K105_7 E, K105_8 E, K105_9 E, K105_10 E], [K106_0 E], [K107_0 E, K107_1 E, K107_2 E, K107_3 E, K107_4 E, K107_5 E, K107_6 E, K107_7 E, K107_8 E, K107_9 E, K107_10 E, K107_11 E, K107_12 E, K107_13 E], [K108_0 E, K108_1 E, K108_2 E], [K109_0 E], [K110_0 E], [K111_0 E], [K112_0 E], [K113_0 E, K113_1 E, K113_2 E], [K114_0 E], [K115_0 E], [K116_0 E, K116_1 E, K116_2 E], [K117_0 E, K117_1 E, K117_2 E], [K118_0 E], [K119_0 E]]
def mtc_6 : List Mi_ := [M120, M121, M122, M123, M124, M125, M126, M127, M128, M129, M130, M131, M132, M133, M134, M135, M136, M137, M138, M139]
def bpc_6 : List (List Nat) := [[0], [0, 33, 38, 52, 53], [0, 4, 16, 51, 77, 83, 89, 95], [0, 22, 23], [0, 36, 65, 71], [0, 4, 27], [0, 4, 27], [0, 4, 24, 30], [0, 4, 24, 30], [0], [0, 4, 24, 30], [0], [0, 34, 35], [0], [0], [0, 4, 32, 38, 42, 48], [0], [0, 4, 39], [0, 18, 29], [0]]
def blc_6 (E : En_) : List (List (List Ii_)) := [[K120_0 E], [K121_0 E, K121_1 E, K121_2 E, K121_3 E, K121_4 E], [K122_0 E, K122_1 E, K122_2 E, K122_3 E, K122_4 E, K122_5 E, K122_6 E, K122_7 E], [K123_0 E, K123_1 E, K123_2 E], [K124_0 E, K124_1 E, K124_2 E, K124_3 E], [K125_0 E, K125_1 E, K125_2 E], [K126_0 E, K126_1 E, K126_2 E], [K127_0 E, K127_1 E, K127_2 E, K127_3 E], [K128_0 E, K128_1 E, K128_2 E, K128_3 E], [K129_0 E], [K130_0 E, K130_1 E, K130_2 E, K130_3 E], [K131_0 E], [K132_0 E, K132_1 E, K132_2 E], [K133_0 E], [K134_0 E], [K135_0 E, K135_1 E, K135_2 E, K135_3 E, K135_4 E, K135_5 E], [K136_0 E], [K137_0 E, K137_1 E, K137_2 E], [K138_0 E, K138_1 E, K138_2 E], [K139_0 E]]
def mtc_7 : List Mi_ := [M140, M141, M142, M143, M144, M145, M146, M147, M148, M149, M150, M151, M152, M153, M154, M155, M156, M157, M158, M159]
def bpc_7 : List (List Nat) := [[0, 4, 39], [0, 4, 24, 30], [0, 14, 15], [0, 4, 26, 32], [0, 28, 29], [0, 17, 18], [0], [0, 22, 23], [0, 20, 21], [0], [0, 29, 31, 68, 75, 82, 88, 94], [0, 9, 10], [0, 4, 25, 31], [0, 4, 33, 39], [0, 20, 24, 25], [0, 20, 21], [0, 17, 19], [0, 14, 20, 53, 59, 63, 93, 97, 98, 99, 105], [0, 14, 15], [0, 29, 31, 72, 89, 95, 101, 107]]
def blc_7 (E : En_) : List (List (List Ii_)) := [[K140_0 E, K140_1 E, K140_2 E], [K141_0 E, K141_1 E, K141_2 E, K141_3 E], [K142_0 E, K142_1 E, K142_2 E], [K143_0 E, K143_1 E, K143_2 E, K143_3 E], [K144_0 E, K144_1 E, K144_2 E], [K145_0 E, K145_1 E, K145_2 E], [K146_0 E], [K147_0 E, K147_1 E, K147_2 E], [K148_0 E, K148_1 E, K148_2 E], [K149_0 E], [K150_0 E, K150_1 E, K150_2 E, K150_3 E, K150_4 E, K150_5 E, K150_6 E, K150_7 E], [K151_0 E, K151_1 E, K151_2 E], [K152_0 E, K152_1 E, K152_2 E, K152_3 E], [K153_0 E, K153_1 E, K153_2 E, K153_3 E], [K154_0 E, K154_1 E, K154_2 E, K154_3 E], [K155_0 E, K155_1 E, K155_2 E], [K156_0 E, K156_1 E, K156_2 E], [K157_0 E, K157_1 E, K157_2 E, K157_3 E, K157_4 E, K157_5 E, K157_6 E, K157_7 E, K157_8 E, K157_9 E, K157_10 E], [K158_0 E, K158_1 E, K158_2 E], [K159_0 E, K159_1 E, K159_2 E, K159_3 E, K159_4 E, K159_5 E, K159_6 E, K159_7 E]]
def mtc_8 : List Mi_ := [M160, M161, M162, M163, M164, M165, M166, M167, M168, M169, M170, M171, M172, M173, M174, M175, M176, M177, M178, M179]
def bpc_8 : List (List Nat) := [[0], [0, 15, 37, 39], [0, 30, 32, 47, 92, 100, 107, 115, 129, 130, 131, 139, 147], [0, 5, 37, 41, 47], [0, 11, 18, 49, 55], [0, 10, 41, 59, 66, 82, 84, 99, 101, 105, 111], [0, 15, 35, 37], [0, 29, 31, 68, 77, 86, 92, 98, 104, 116, 117], [0], [0], [0, 14, 37, 52, 60], [0, 19, 70, 83, 89], [0, 22, 31, 52, 99, 108, 114], [0, 15, 48, 84, 89, 95], [0], [0, 8, 21, 60, 99, 105, 111], [0, 14, 34, 36], [0, 4, 57, 63], [0, 15, 39, 40, 51, 56, 62], [0, 14, 23, 49, 56, 60, 66]]
def blc_8 (E : En_) : List (List (List Ii_)) := [[K160_0 E], [K161_0 E, K161_1 E, K161_2 E, K161_3 E], [K162_0 E, K162_1 E, K162_2 E, K162_3 E, K162_4 E, K162_5 E, K162_6 E, K162_7 E, K162_8 E, K162_9 E, K162_10 E, K162_11 E, K162_12 E], [K163_0 E, K163_1 E, K163_2 E, K163_3 E, K163_4 E], [K164_0 E, K164_1 E, K164_2 E, K164_3 E, K164_4 E], [K165_0 E, K165_1 E, K165_2 E, K165_3 E, K165_4 E, K165_5 E, K165_6 E, K165_7 E, K165_8 E, K165_9 E, K165_10 E], [K166_0 E, K166_1 E, K166_2 E, K166_3 E], [K167_0 E, K167_1 E, K167_2 E, K167_3 E, K167_4 E, K167_5 E, K167_6 E, K167_7 E, K167_8 E, K167_9 E, K167_10 E], [K168_0 E], [K169_0 E], [K170_0 E, K170_1 E, K170_2 E, K170_3 E, K170_4 E], [K171_0 E, K171_1 E, K171_2 E, K171_3 E, K171_4 E], [K172_0 E, K172_1 E, K172_2 E, K172_3 E, K172_4 E, K172_5 E, K172_6 E], [K173_0 E, K173_1 E, K173_2 E, K173_3 E, K173_4 E, K173_5 E], [K174_0 E], [K175_0 E, K175_1 E, K175_2 E, K175_3 E, K175_4 E, K175_5 E, K175_6 E], [K176_0 E, K176_1 E, K176_2 E, K176_3 E], [K177_0 E, K177_1 E, K177_2 E, K177_3 E], [K178_0 E, K178_1 E, K178_2 E, K178_3 E, K178_4 E, K178_5 E, K178_6 E], [K179_0 E, K179_1 E, K179_2 E, K179_3 E, K179_4 E, K179_5 E, K179_6 E]]
def mtc_9 : List Mi_ := [M180, M181, M182, M183, M184, M185, M186, M187, M188, M189, M190, M191, M192, M193, M194, M195, M196, M197, M198, M199]
def bpc_9 : List (List Nat) := [[0, 14, 22, 43, 49], [0, 7, 27, 33], [0, 13, 42, 48], [0, 11, 30, 53, 59, 67, 72], [0, 20, 31], [0, 14], [0], [0], [0, 11, 30, 65, 70, 76], [0, 18], [0, 18], [0], [0, 6, 39, 44, 112], [0], [0, 4, 14, 50, 93, 100, 106, 112], [0, 6, 16, 54, 60, 66, 72], [0, 8, 39, 88, 94, 103, 139, 140], [0], [0, 14], [0, 13, 21, 44, 50, 61, 62]]
def blc_9 (E : En_) : List (List (List Ii_)) := [[K180_0 E, K180_1 E, K180_2 E, K180_3 E, K180_4 E], [K181_0 E, K181_1 E, K181_2 E, K181_3 E], [K182_0 E, K182_1 E, K182_2 E, K182_3 E], [K183_0 E, K183_1 E, K183_2 E, K183_3 E, K183_4 E, K183_5 E, K183_6 E], [K184_0 E, K184_1 E, K184_2 E], [K185_0 E, K185_1 E], [K186_0 E], [K187_0 E], [K188_0 E, K188_1 E, K188_2 E, K188_3 E, K188_4 E, K188_5 E], [K189_0 E, K189_1 E], [K190_0 E, K190_1 E], [K191_0 E], [K192_0 E, K192_1 E, K192_2 E, K192_3 E, K192_4 E], [K193_0 E], [K194_0 E, K194_1 E, K194_2 E, K194_3 E, K194_4 E, K194_5 E, K194_6 E, K194_7 E], [K195_0 E, K195_1 E, K195_2 E, K195_3 E, K195_4 E, K195_5 E, K195_6 E], [K196_0 E, K196_1 E, K196_2 E, K196_3 E, K196_4 E, K196_5 E, K196_6 E, K196_7 E], [K197_0 E], [K198_0 E, K198_1 E], [K199_0 E, K199_1 E, K199_2 E, K199_3 E, K199_4 E, K199_5 E, K199_6 E]]
def mtc_10 : List Mi_ := [M200, M201, M202, M203, M204, M205, M206, M207, M208, M209, M210, M211, M212, M213, M214, M215, M216, M217, M218, M219]
def bpc_10 : List (List Nat) := [[0, 56, 57, 78, 79, 86, 88], [0], [0], [0], [0, 11, 40, 50, 52, 86], [0, 14, 36, 37, 53, 54], [0, 24, 26], [0, 31, 33, 78, 79], [0, 25, 27], [0], [0, 18], [0, 20], [0], [0, 14], [0, 32, 42, 52, 64, 74], [0, 20, 23, 40, 51, 62, 74, 76, 117], [0, 21], [0, 29, 34], [0, 14, 19, 53, 72], [0, 2, 22, 28]]
def blc_10 (E : En_) : List (List (List Ii_)) := [[K200_0 E, K200_1 E, K200_2 E, K200_3 E, K200_4 E, K200_5 E, K200_6 E], [K201_0 E], [K202_0 E], [K203_0 E], [K204_0 E, K204_1 E, K204_2 E, K204_3 E, K204_4 E, K204_5 E], [K205_0 E, K205_1 E, K205_2 E, K205_3 E, K205_4 E, K205_5 E], [K206_0 E, K206_1 E, K206_2 E], [K207_0 E, K207_1 E, K207_2 E, K207_3 E, K207_4 E], [K208_0 E, K208_1 E, K208_2 E], [K209_0 E], [K210_0 E, K210_1 E], [K211_0 E, K211_1 E], [K212_0 E], [K213_0 E, K213_1 E], [K214_0 E, K214_1 E, K214_2 E, K214_3 E, K214_4 E, K214_5 E], [K215_0 E, K215_1 E, K215_2 E, K215_3 E, K215_4 E, K215_5 E, K215_6 E, K215_7 E, K215_8 E], [K216_0 E, K216_1 E], [K217_0 E, K217_1 E, K217_2 E], [K218_0 E, K218_1 E, K218_2 E, K218_3 E, K218_4 E], [K219_0 E, K219_1 E, K219_2 E, K219_3 E]]
def mtc_11 : List Mi_ := [M220, M221, M222, M223, M224, M225, M226, M227, M228, M229, M230, M231, M232, M233, M234, M235, M236, M237, M238, M239]
def bpc_11 : List (List Nat) := [[0, 57, 78, 98], [0, 26, 39, 69, 80, 104, 120, 139, 196, 209, 227, 228, 234, 255, 265, 266, 269], [0, 21, 22], [0], [0, 4, 16, 73, 102, 121, 132], [0, 11, 12], [0, 30, 45, 61, 67, 80, 81], [0, 21, 22, 60, 76, 85, 86, 96, 106, 109, 112, 121, 145, 154], [0, 11, 12], [0, 11], [0, 19, 20, 29, 38, 43, 52, 53, 68, 70], [0], [0, 13, 14, 42], [0, 27, 28], [0, 14, 15, 49, 50, 54, 87, 88, 92, 111, 128, 129, 139, 173, 174, 189, 190], [0, 35, 36, 67, 68], [0, 2, 22, 28], [0, 14, 15, 54, 58, 59, 76, 77, 111, 127, 129, 139], [0, 20, 21, 40, 44, 45, 49, 59, 60], [0]]
def blc_11 (E : En_) : List (List (List Ii_)) := [[K220_0 E, K220_1 E, K220_2 E, K220_3 E], [K221_0 E, K221_1 E, K221_2 E, K221_3 E, K221_4 E, K221_5 E, K221_6 E, K221_7 E, K221_8 E, K221_9 E, K221_10 E, K221_11 E, K221_12 E, K221_13 E, K221_14 E, K221_15 E, K221_16 E], [K222_0 E, K222_1 E, K222_2 E], [K223_0 E], [K224_0 E, K224_1 E, K224_2 E, K224_3 E, K224_4 E, K224_5 E, K224_6 E], [K225_0 E, K225_1 E, K225_2 E], [K226_0 E, K226_1 E, K226_2 E, K226_3 E, K226_4 E, K226_5 E, K226_6 E], [K227_0 E, K227_1 E, K227_2 E, K227_3 E, K227_4 E, K227_5 E, K227_6 E, K227_7 E, K227_8 E, K227_9 E, K227_10 E, K227_11 E, K227_12 E, K227_13 E], [K228_0 E, K228_1 E, K228_2 E], [K229_0 E, K229_1 E], [K230_0 E, K230_1 E, K230_2 E, K230_3 E, K230_4 E, K230_5 E, K230_6 E, K230_7 E, K230_8 E, K230_9 E], [K231_0 E], [K232_0 E, K232_1 E, K232_2 E, K232_3 E], [K233_0 E, K233_1 E, K233_2 E], [K234_0 E, K234_1 E, K234_2 E, K234_3 E, K234_4 E, K234_5 E, K234_6 E, K234_7 E, K234_8 E, K234_9 E, K234_10 E, K234_11 E, K234_12 E, K234_13 E, K234_14 E, K234_15 E, K234_16 E], [K235_0 E, K235_1 E, K235_2 E, K235_3 E, K235_4 E], [K236_0 E, K236_1 E, K236_2 E, K236_3 E], [K237_0 E, K237_1 E, K237_2 E, K237_3 E, K237_4 E, K237_5 E, K237_6 E, K237_7 E, K237_8 E, K237_9 E, K237_10 E, K237_11 E], [K238_0 E, K238_1 E, K238_2 E, K238_3 E, K238_4 E, K238_5 E, K238_6 E, K238_7 E, K238_8 E], [K239_0 E]]
def mtc_12 : List Mi_ := [M240, M241, M242, M243, M244, M245, M246, M247, M248, M249, M250, M251, M252, M253, M254, M255, M256, M257, M258, M259]
def bpc_12 : List (List Nat) := [[0], [0, 12, 30, 67, 73, 87, 93], [0], [0, 10], [0, 14, 43, 80, 109], [0, 14, 34, 93, 96], [0, 2, 25], [0, 30, 31], [0], [0], [0, 13, 14], [0], [0], [0], [0, 11, 12, 27, 28, 35, 36], [0, 15, 16], [0], [0, 16, 20, 21], [0], [0, 34, 35]]
def blc_12 (E : En_) : List (List (List Ii_)) := [[K240_0 E], [K241_0 E, K241_1 E, K241_2 E, K241_3 E, K241_4 E, K241_5 E, K241_6 E], [K242_0 E], [K243_0 E, K243_1 E], [K244_0 E, K244_1 E, K244_2 E, K244_3 E, K244_4 E], [K245_0 E, K245_1 E, K245_2 E, K245_3 E, K245_4 E], [K246_0 E, K246_1 E, K246_2 E], [K247_0 E, K247_1 E, K247_2 E], [K248_0 E], [K249_0 E], [K250_0 E, K250_1 E, K250_2 E], [K251_0 E], [K252_0 E], [K253_0 E], [K254_0 E, K254_1 E, K254_2 E, K254_3 E, K254_4 E, K254_5 E, K254_6 E], [K255_0 E, K255_1 E, K255_2 E], [K256_0 E], [K257_0 E, K257_1 E, K257_2 E, K257_3 E], [K258_0 E], [K259_0 E, K259_1 E, K259_2 E]]
def mtc_13 : List Mi_ := [M260, M261, M262, M263, M264, M265, M266, M267, M268, M269, M270, M271, M272, M273, M274, M275, M276, M277, M278, M279]
def bpc_13 : List (List Nat) := [[0, 42, 43], [0, 2, 40, 46], [0], [0], [0, 2, 41], [0, 16, 44], [0, 19, 20], [0], [0, 15], [0, 4, 34], [0], [0], [0, 2, 40, 46], [0, 12, 44], [0, 12, 44], [0, 14, 18], [0, 11, 28, 65, 71, 77], [0, 24, 50, 55, 62], [0], [0]]
def blc_13 (E : En_) : List (List (List Ii_)) := [[K260_0 E, K260_1 E, K260_2 E], [K261_0 E, K261_1 E, K261_2 E, K261_3 E], [K262_0 E], [K263_0 E], [K264_0 E, K264_1 E, K264_2 E], [K265_0 E, K265_1 E, K265_2 E], [K266_0 E, K266_1 E, K266_2 E], [K267_0 E], [K268_0 E, K268_1 E], [K269_0 E, K269_1 E, K269_2 E], [K270_0 E], [K271_0 E], [K272_0 E, K272_1 E, K272_2 E, K272_3 E], [K273_0 E, K273_1 E, K273_2 E], [K274_0 E, K274_1 E, K274_2 E], [K275_0 E, K275_1 E, K275_2 E], [K276_0 E, K276_1 E, K276_2 E, K276_3 E, K276_4 E, K276_5 E], [K277_0 E, K277_1 E, K277_2 E, K277_3 E, K277_4 E], [K278_0 E], [K279_0 E]]
def mtc_14 : List Mi_ := [M280, M281, M282, M283, M284, M285, M286, M287, M288, M289, M290, M291, M292, M293, M294, M295, M296, M297, M298, M299]
def bpc_14 : List (List Nat) := [[0, 8, 67, 86, 92, 102, 110], [0], [0], [0], [0, 16, 32, 34], [0], [0, 12, 44], [0, 18, 54, 64, 100], [0, 125, 171, 174], [0, 13, 42, 85, 96, 116, 127, 152, 157, 203], [0], [0, 13, 43, 82, 97, 99, 121, 123, 179, 189, 223, 237, 243, 249], [0], [0, 2, 34, 35, 42, 44, 52, 100, 102, 108, 111], [0, 20, 22], [0, 43, 122], [0, 14, 66, 90, 110, 149], [0, 18, 29], [0, 7, 43, 44, 52], [0, 7, 44]]
def blc_14 (E : En_) : List (List (List Ii_)) := [[K280_0 E, K280_1 E, K280_2 E, K280_3 E, K280_4 E, K280_5 E, K280_6 E], [K281_0 E], [K282_0 E], [K283_0 E], [K284_0 E, K284_1 E, K284_2 E, K284_3 E], [K285_0 E], [K286_0 E, K286_1 E, K286_2 E], [K287_0 E, K287_1 E, K287_2 E, K287_3 E, K287_4 E], [K288_0 E, K288_1 E, K288_2 E, K288_3 E], [K289_0 E, K289_1 E, K289_2 E, K289_3 E, K289_4 E, K289_5 E, K289_6 E, K289_7 E, K289_8 E, K289_9 E], [K290_0 E], [K291_0 E, K291_1 E, K291_2 E, K291_3 E, K291_4 E, K291_5 E, K291_6 E, K291_7 E, K291_8 E, K291_9 E, K291_10 E, K291_11 E, K291_12 E, K291_13 E], [K292_0 E], [K293_0 E, K293_1 E, K293_2 E, K293_3 E, K293_4 E, K293_5 E, K293_6 E, K293_7 E, K293_8 E, K293_9 E, K293_10 E], [K294_0 E, K294_1 E, K294_2 E], [K295_0 E, K295_1 E, K295_2 E], [K296_0 E, K296_1 E, K296_2 E, K296_3 E, K296_4 E, K296_5 E], [K297_0 E, K297_1 E, K297_2 E], [K298_0 E, K298_1 E, K298_2 E, K298_3 E, K298_4 E], [K299_0 E, K299_1 E, K299_2 E]]
def mtc_15 : List Mi_ := [M300, M301, M302, M303, M304, M305, M306, M307, M308, M309, M310, M311, M312, M313, M314, M315, M316, M317, M318, M319]
def bpc_15 : List (List Nat) := [[0, 4, 54], [0, 4, 35, 36, 47], [0, 12, 84, 96], [0, 5, 74, 78, 79, 90], [0], [0, 7, 93, 126], [0, 4, 105, 111], [0, 22, 23], [0, 18, 50, 53, 60, 80, 157, 197, 203, 209, 215, 221], [0], [0, 18, 29, 67], [0, 4, 18, 46, 52, 62], [0, 31, 33, 41, 94, 150, 156, 165, 187, 188], [0], [0, 4, 24, 25, 45, 61, 65, 83], [0, 26, 39, 80, 99, 144, 160, 171, 225, 238, 256, 257, 263, 276, 280, 281, 299], [0, 27, 28], [0, 17], [0, 23, 24], [0, 22, 23, 55, 56, 92, 93, 139]]
def blc_15 (E : En_) : List (List (List Ii_)) := [[K300_0 E, K300_1 E, K300_2 E], [K301_0 E, K301_1 E, K301_2 E, K301_3 E, K301_4 E], [K302_0 E, K302_1 E, K302_2 E, K302_3 E], [K303_0 E, K303_1 E, K303_2 E, K303_3 E, K303_4 E, K303_5 E], [K304_0 E], [K305_0 E, K305_1 E, K305_2 E, K305_3 E], [K306_0 E, K306_1 E, K306_2 E, K306_3 E], [K307_0 E, K307_1 E, K307_2 E], [K308_0 E, K308_1 E, K308_2 E, K308_3 E, K308_4 E, K308_5 E, K308_6 E, K308_7 E, K308_8 E, K308_9 E, K308_10 E, K308_11 E], [K309_0 E], [K310_0 E, K310_1 E, K310_2 E, K310_3 E], [K311_0 E, K311_1 E, K311_2 E, K311_3 E, K311_4 E, K311_5 E], [K312_0 E, K312_1 E, K312_2 E, K312_3 E, K312_4 E, K312_5 E, K312_6 E, K312_7 E, K312_8 E, K312_9 E], [K313_0 E], [K314_0 E, K314_1 E, K314_2 E, K314_3 E, K314_4 E, K314_5 E, K314_6 E, K314_7 E], [K315_0 E, K315_1 E, K315_2 E, K315_3 E, K315_4 E, K315_5 E, K315_6 E, K315_7 E, K315_8 E, K315_9 E, K315_10 E, K315_11 E, K315_12 E, K315_13 E, K315_14 E, K315_15 E, K315_16 E], [K316_0 E, K316_1 E, K316_2 E], [K317_0 E, K317_1 E], [K318_0 E, K318_1 E, K318_2 E], [K319_0 E, K319_1 E, K319_2 E, K319_3 E, K319_4 E, K319_5 E, K319_6 E, K319_7 E]]
def mtc_16 : List Mi_ := [M320, M321, M322, M323, M324, M325, M326, M327, M328, M329, M330, M331, M332, M333, M334, M335, M336, M337, M338, M339]
def bpc_16 : List (List Nat) := [[0, 57, 58], [0, 13, 14], [0, 13, 42, 45], [0, 15, 26, 27, 42, 44], [0, 20, 21], [0], [0, 22, 23, 62, 66, 67, 84, 85, 140], [0, 27, 31, 32, 46, 47], [0, 24, 25, 43, 44, 92, 122, 136, 137], [0], [0, 15], [0, 3, 36], [0, 14], [0, 14, 15], [0, 57, 83], [0], [0], [0, 60, 75, 85, 100, 110, 120, 130, 145, 155, 165, 175, 185, 186], [0, 8, 9], [0]]
def blc_16 (E : En_) : List (List (List Ii_)) := [[K320_0 E, K320_1 E, K320_2 E], [K321_0 E, K321_1 E, K321_2 E], [K322_0 E, K322_1 E, K322_2 E, K322_3 E], [K323_0 E, K323_1 E, K323_2 E, K323_3 E, K323_4 E, K323_5 E], [K324_0 E, K324_1 E, K324_2 E], [K325_0 E], [K326_0 E, K326_1 E, K326_2 E, K326_3 E, K326_4 E, K326_5 E, K326_6 E, K326_7 E, K326_8 E], [K327_0 E, K327_1 E, K327_2 E, K327_3 E, K327_4 E, K327_5 E], [K328_0 E, K328_1 E, K328_2 E, K328_3 E, K328_4 E, K328_5 E, K328_6 E, K328_7 E, K328_8 E], [K329_0 E], [K330_0 E, K330_1 E], [K331_0 E, K331_1 E, K331_2 E], [K332_0 E, K332_1 E], [K333_0 E, K333_1 E, K333_2 E], [K334_0 E, K334_1 E, K334_2 E], [K335_0 E], [K336_0 E], [K337_0 E, K337_1 E, K337_2 E, K337_3 E, K337_4 E, K337_5 E, K337_6 E, K337_7 E, K337_8 E, K337_9 E, K337_10 E, K337_11 E, K337_12 E, K337_13 E], [K338_0 E, K338_1 E, K338_2 E], [K339_0 E]]
def mtc_17 : List Mi_ := [M340, M341, M342, M343, M344, M345, M346, M347, M348, M349, M350, M351, M352, M353, M354, M355, M356, M357, M358, M359]
def bpc_17 : List (List Nat) := [[0], [0, 18, 39, 40], [0], [0, 10, 40], [0, 21, 22, 25, 63, 69], [0], [0, 12, 83, 93, 99], [0], [0, 9, 61, 66, 71, 77], [0, 12, 50, 51, 59], [0, 15, 46, 54, 59, 88, 93], [0, 21, 37], [0, 15, 58, 98, 104, 110], [0, 26, 27, 56, 57], [0, 9, 22, 57, 63, 76, 77], [0], [0, 20], [0], [0, 10, 57, 96, 106, 123, 129], [0, 28, 29]]
def blc_17 (E : En_) : List (List (List Ii_)) := [[K340_0 E], [K341_0 E, K341_1 E, K341_2 E, K341_3 E], [K342_0 E], [K343_0 E, K343_1 E, K343_2 E], [K344_0 E, K344_1 E, K344_2 E, K344_3 E, K344_4 E, K344_5 E], [K345_0 E], [K346_0 E, K346_1 E, K346_2 E, K346_3 E, K346_4 E], [K347_0 E], [K348_0 E, K348_1 E, K348_2 E, K348_3 E, K348_4 E, K348_5 E], [K349_0 E, K349_1 E, K349_2 E, K349_3 E, K349_4 E], [K350_0 E, K350_1 E, K350_2 E, K350_3 E, K350_4 E, K350_5 E, K350_6 E], [K351_0 E, K351_1 E, K351_2 E], [K352_0 E, K352_1 E, K352_2 E, K352_3 E, K352_4 E, K352_5 E], [K353_0 E, K353_1 E, K353_2 E, K353_3 E, K353_4 E], [K354_0 E, K354_1 E, K354_2 E, K354_3 E, K354_4 E, K354_5 E, K354_6 E], [K355_0 E], [K356_0 E, K356_1 E], [K357_0 E], [K358_0 E, K358_1 E, K358_2 E, K358_3 E, K358_4 E, K358_5 E, K358_6 E], [K359_0 E, K359_1 E, K359_2 E]]
def mtc_18 : List Mi_ := [M360, M361, M362, M363, M364, M365, M366, M367, M368, M369, M370, M371, M372, M373, M374, M375, M376, M377, M378, M379]
def bpc_18 : List (List Nat) := [[0], [0, 16, 28], [0], [0], [0, 12], [0, 40, 62, 87, 95, 104, 116, 124], [0, 10, 46], [0, 16, 60, 64, 65, 73], [0], [0, 17, 30, 43, 44], [0], [0, 76, 83, 90, 97, 104, 111, 121, 132, 143, 154, 172, 180], [0], [0, 29, 31], [0, 41, 80, 91, 101, 111, 125, 136, 147, 164], [0, 12], [0], [0, 48, 57, 66, 74, 81, 88, 107, 115], [0], [0, 33, 34]]
def blc_18 (E : En_) : List (List (List Ii_)) := [[K360_0 E], [K361_0 E, K361_1 E, K361_2 E], [K362_0 E], [K363_0 E], [K364_0 E, K364_1 E], [K365_0 E, K365_1 E, K365_2 E, K365_3 E, K365_4 E, K365_5 E, K365_6 E, K365_7 E], [K366_0 E, K366_1 E, K366_2 E], [K367_0 E, K367_1 E, K367_2 E, K367_3 E, K367_4 E, K367_5 E], [K368_0 E], [K369_0 E, K369_1 E, K369_2 E, K369_3 E, K369_4 E], [K370_0 E], [K371_0 E, K371_1 E, K371_2 E, K371_3 E, K371_4 E, K371_5 E, K371_6 E, K371_7 E, K371_8 E, K371_9 E, K371_10 E, K371_11 E, K371_12 E], [K372_0 E], [K373_0 E, K373_1 E, K373_2 E], [K374_0 E, K374_1 E, K374_2 E, K374_3 E, K374_4 E, K374_5 E, K374_6 E, K374_7 E, K374_8 E, K374_9 E], [K375_0 E, K375_1 E], [K376_0 E], [K377_0 E, K377_1 E, K377_2 E, K377_3 E, K377_4 E, K377_5 E, K377_6 E, K377_7 E, K377_8 E], [K378_0 E], [K379_0 E, K379_1 E, K379_2 E]]
def mtc_19 : List Mi_ := [M380, M381, M382, M383, M384, M385, M386, M387, M388, M389, M390, M391, M392, M393, M394, M395, M396, M397, M398, M399]
def bpc_19 : List (List Nat) := [[0, 38, 40], [0, 16, 51, 59, 62, 68], [0, 20, 55, 80, 81, 92, 95], [0], [0], [0, 48, 52], [0, 50, 51, 75, 76], [0, 12], [0], [0], [0], [0], [0], [0], [0], [0, 14, 15], [0, 19, 42, 80, 123], [0, 48, 131, 134], [0, 11, 12], [0, 13, 17]]
def blc_19 (E : En_) : List (List (List Ii_)) := [[K380_0 E, K380_1 E, K380_2 E], [K381_0 E, K381_1 E, K381_2 E, K381_3 E, K381_4 E, K381_5 E], [K382_0 E, K382_1 E, K382_2 E, K382_3 E, K382_4 E, K382_5 E, K382_6 E], [K383_0 E], [K384_0 E], [K385_0 E, K385_1 E, K385_2 E], [K386_0 E, K386_1 E, K386_2 E, K386_3 E, K386_4 E], [K387_0 E, K387_1 E], [K388_0 E], [K389_0 E], [K390_0 E], [K391_0 E], [K392_0 E], [K393_0 E], [K394_0 E], [K395_0 E, K395_1 E, K395_2 E], [K396_0 E, K396_1 E, K396_2 E, K396_3 E, K396_4 E], [K397_0 E, K397_1 E, K397_2 E, K397_3 E], [K398_0 E, K398_1 E, K398_2 E], [K399_0 E, K399_1 E, K399_2 E]]
def mtc_20 : List Mi_ := [M400, M401, M402, M403, M404, M405, M406, M407, M408, M409, M410, M411, M412, M413, M414, M415, M416, M417, M418, M419]
def bpc_20 : List (List Nat) := [[0, 13, 17, 21], [0, 12, 15], [0, 12, 15], [0, 13, 17, 21], [0, 13, 17], [0, 15, 19, 23], [0, 13, 17], [0, 13, 17, 21], [0, 13, 17], [0, 12, 15], [0, 13, 17], [0, 12, 15], [0, 12, 15], [0, 12, 15], [0, 11, 14], [0, 12, 15], [0, 19, 23, 27, 31], [0, 15, 16, 20, 24], [0, 13, 17, 21], [0, 15, 16, 20, 24, 28]]
def blc_20 (E : En_) : List (List (List Ii_)) := [[K400_0 E, K400_1 E, K400_2 E, K400_3 E], [K401_0 E, K401_1 E, K401_2 E], [K402_0 E, K402_1 E, K402_2 E], [K403_0 E, K403_1 E, K403_2 E, K403_3 E], [K404_0 E, K404_1 E, K404_2 E], [K405_0 E, K405_1 E, K405_2 E, K405_3 E], [K406_0 E, K406_1 E, K406_2 E], [K407_0 E, K407_1 E, K407_2 E, K407_3 E], [K408_0 E, K408_1 E, K408_2 E], [K409_0 E, K409_1 E, K409_2 E], [K410_0 E, K410_1 E, K410_2 E], [K411_0 E, K411_1 E, K411_2 E], [K412_0 E, K412_1 E, K412_2 E], [K413_0 E, K413_1 E, K413_2 E], [K414_0 E, K414_1 E, K414_2 E], [K415_0 E, K415_1 E, K415_2 E], [K416_0 E, K416_1 E, K416_2 E, K416_3 E, K416_4 E], [K417_0 E, K417_1 E, K417_2 E, K417_3 E, K417_4 E], [K418_0 E, K418_1 E, K418_2 E, K418_3 E], [K419_0 E, K419_1 E, K419_2 E, K419_3 E, K419_4 E, K419_5 E]]
def mtc_21 : List Mi_ := [M420, M421, M422, M423, M424, M425, M426, M427, M428]
def bpc_21 : List (List Nat) := [[0, 12, 15, 18], [0, 12, 15], [0, 12, 15], [0, 13, 17], [0, 11, 14], [0, 12, 15], [0, 12, 15], [0, 11, 14], [0, 23, 268, 341, 366, 379, 392, 405, 430, 455, 468, 516, 533, 536, 549, 597, 614, 617, 653, 670, 673, 709, 726, 729, 777, 794, 797, 845, 862, 865, 925, 942, 945, 993, 1010, 1013, 1061, 1078, 1081, 1129, 1146, 1149, 1162, 1175, 1188, 1202, 1238, 1255, 1258, 1271, 1319, 1336, 1339, 1375, 1392, 1395, 1408, 1444, 1446, 1449, 1487, 1489, 1492, 1528, 1545, 1548, 1561, 1597, 1614, 1617, 1653, 1669, 1672, 1708, 1725, 1728, 1741, 1825, 1842, 1845, 1865, 1866, 1892, 1893, 1909, 1926, 1927, 1933, 1936, 1984, 2001, 2004, 2052, 2069, 2070, 2076, 2079, 2115, 2132, 2135, 2148, 2184, 2201, 2204, 2240, 2257, 2260, 2273, 2321, 2338, 2341, 2365, 2382, 2385, 2398, 2434, 2451, 2454, 2490, 2507, 2510, 2535, 2548, 2572, 2589, 2592, 2598]]
def blc_21 (E : En_) : List (List (List Ii_)) := [[K420_0 E, K420_1 E, K420_2 E, K420_3 E], [K421_0 E, K421_1 E, K421_2 E], [K422_0 E, K422_1 E, K422_2 E], [K423_0 E, K423_1 E, K423_2 E], [K424_0 E, K424_1 E, K424_2 E], [K425_0 E, K425_1 E, K425_2 E], [K426_0 E, K426_1 E, K426_2 E], [K427_0 E, K427_1 E, K427_2 E], [K428_0 E, K428_1 E, K428_2 E, K428_3 E, K428_4 E, K428_5 E, K428_6 E, K428_7 E, K428_8 E, K428_9 E, K428_10 E, K428_11 E, K428_12 E, K428_13 E, K428_14 E, K428_15 E, K428_16 E, K428_17 E, K428_18 E, K428_19 E, K428_20 E, K428_21 E, K428_22 E, K428_23 E, K428_24 E, K428_25 E, K428_26 E, K428_27 E, K428_28 E, K428_29 E, K428_30 E, K428_31 E, K428_32 E, K428_33 E, K428_34 E, K428_35 E, K428_36 E, K428_37 E, K428_38 E, K428_39 E, K428_40 E, K428_41 E, K428_42 E, K428_43 E, K428_44 E, K428_45 E, K428_46 E, K428_47 E, K428_48 E, K428_49 E, K428_50 E, K428_51 E, K428_52 E, K428_53 E, K428_54 E, K428_55 E, K428_56 E, K428_57 E, K428_58 E, K428_59 E, K428_60 E, K428_61 E, K428_62 E, K428_63 E, K428_64 E, K428_65 E, K428_66 E, K428_67 E, K428_68 E, K428_69 E, K428_70 E, K428_71 E, K428_72 E, K428_73 E, K428_74 E, K428_75 E, K428_76 E, K428_77 E, K428_78 E, K428_79 E, K428_80 E, K428_81 E, K428_82 E, K428_83 E, K428_84 E, K428_85 E, K428_86 E, K428_87 E, K428_88 E, K428_89 E, K428_90 E, K428_91 E, K428_92 E, K428_93 E, K428_94 E, K428_95 E, K428_96 E, K428_97 E, K428_98 E, K428_99 E, K428_100 E, K428_101 E, K428_102 E, K428_103 E, K428_104 E, K428_105 E, K428_106 E, K428_107 E, K428_108 E, K428_109 E, K428_110 E, K428_111 E, K428_112 E, K428_113 E, K428_114 E, K428_115 E, K428_116 E, K428_117 E, K428_118 E, K428_119 E, K428_120 E, K428_121 E, K428_122 E, K428_123 E, K428_124 E, K428_125 E, K428_126 E]]
def mtc_ : List (List Mi_) := [mtc_0, mtc_1, mtc_2, mtc_3, mtc_4, mtc_5, mtc_6, mtc_7, mtc_8, mtc_9, mtc_10, mtc_11, mtc_12, mtc_13, mtc_14, mtc_15, mtc_16, mtc_17, mtc_18, mtc_19, mtc_20, mtc_21]
def bpc_ : List (List (List Nat)) := [bpc_0, bpc_1, bpc_2, bpc_3, bpc_4, bpc_5, bpc_6, bpc_7, bpc_8, bpc_9, bpc_10, bpc_11, bpc_12, bpc_13, bpc_14, bpc_15, bpc_16, bpc_17, bpc_18, bpc_19, bpc_20, bpc_21]
def blc_ (E : En_) : List (List (List (List Ii_))) := [blc_0 E, blc_1 E, blc_2 E, blc_3 E, blc_4 E, blc_5 E, blc_6 E, blc_7 E, blc_8 E, blc_9 E, blc_10 E, blc_11 E, blc_12 E, blc_13 E, blc_14 E, blc_15 E, blc_16 E, blc_17 E, blc_18 E, blc_19 E, blc_20 E, blc_21 E]
def Md_ : Mi_ := (⟨"SpiritWall", "", ""⟩, ⟨#[]⟩, 0, none, [], 0)
def MT_ (m : Nat) : Mi_ := if m < 1000 then (mtc_.getD (m / 20) []).getD (m % 20) Md_ else if m < 1100 then M1000 (m - 1000) else if m < 1200 then M1100 (m - 1100) else M1200 (m - 1200)
def bp_ (m b : Nat) : Nat := if m < 1000 then ((bpc_.getD (m / 20) []).getD (m % 20) []).getD b 0 else if m < 1100 then [0, 27, 30, 78, 84].getD b 0 else if m < 1200 then [0, 14].getD b 0 else [0, 14].getD b 0
def B_ (E : En_) (m b : Nat) : List Ii_ := if m < 1000 then (((blc_ E).getD (m / 20) []).getD (m % 20) []).getD b [] else if m < 1100 then [K1000_0 E (m - 1000), K1000_1 E (m - 1000), K1000_2 E (m - 1000), K1000_3 E (m - 1000), K1000_4 E (m - 1000)].getD b [] else if m < 1200 then [K1100_0 E (m - 1100), K1100_1 E (m - 1100)].getD b [] else [K1200_0 E (m - 1200), K1200_1 E (m - 1200)].getD b []
def L_ (m : Nat) : Nat := (MT_ m).2.2.1
noncomputable def R_ (E : En_) (m : Nat) (is : List Ii_) (l : Lc_) (st : List Value) (σ : As_) : Option (Rs_ × As_) := Rg_ (B_ E) L_ m is l st σ
noncomputable def D_ (E : En_) (k : Nat) (as : List Value) (σ : As_) : Option (Rs_ × As_) := Dg_ (B_ E) L_ k as σ
theorem b0_0 (E : En_) : B_ E 0 0 = K0_0 E := rfl
theorem l0 : L_ 0 = 1 := rfl
theorem b1_0 (E : En_) : B_ E 1 0 = K1_0 E := rfl
theorem b1_1 (E : En_) : B_ E 1 1 = K1_1 E := rfl
theorem b1_2 (E : En_) : B_ E 1 2 = K1_2 E := rfl
theorem l1 : L_ 1 = 1 := rfl
theorem b2_0 (E : En_) : B_ E 2 0 = K2_0 E := rfl
theorem l2 : L_ 2 = 1 := rfl
theorem b3_0 (E : En_) : B_ E 3 0 = K3_0 E := rfl
theorem b3_1 (E : En_) : B_ E 3 1 = K3_1 E := rfl
theorem b3_2 (E : En_) : B_ E 3 2 = K3_2 E := rfl
theorem b3_3 (E : En_) : B_ E 3 3 = K3_3 E := rfl
theorem b3_4 (E : En_) : B_ E 3 4 = K3_4 E := rfl
theorem b3_5 (E : En_) : B_ E 3 5 = K3_5 E := rfl
theorem b3_6 (E : En_) : B_ E 3 6 = K3_6 E := rfl
theorem b3_7 (E : En_) : B_ E 3 7 = K3_7 E := rfl
theorem b3_8 (E : En_) : B_ E 3 8 = K3_8 E := rfl
theorem l3 : L_ 3 = 5 := rfl
theorem b4_0 (E : En_) : B_ E 4 0 = K4_0 E := rfl
theorem b4_1 (E : En_) : B_ E 4 1 = K4_1 E := rfl
theorem l4 : L_ 4 = 1 := rfl
theorem b5_0 (E : En_) : B_ E 5 0 = K5_0 E := rfl
theorem b5_1 (E : En_) : B_ E 5 1 = K5_1 E := rfl
theorem b5_2 (E : En_) : B_ E 5 2 = K5_2 E := rfl
theorem b5_3 (E : En_) : B_ E 5 3 = K5_3 E := rfl
theorem l5 : L_ 5 = 2 := rfl
theorem b6_0 (E : En_) : B_ E 6 0 = K6_0 E := rfl
theorem l6 : L_ 6 = 2 := rfl
theorem b7_0 (E : En_) : B_ E 7 0 = K7_0 E := rfl
theorem l7 : L_ 7 = 1 := rfl
theorem b8_0 (E : En_) : B_ E 8 0 = K8_0 E := rfl
theorem l8 : L_ 8 = 1 := rfl
theorem b9_0 (E : En_) : B_ E 9 0 = K9_0 E := rfl
theorem b9_1 (E : En_) : B_ E 9 1 = K9_1 E := rfl
theorem b9_2 (E : En_) : B_ E 9 2 = K9_2 E := rfl
theorem l9 : L_ 9 = 2 := rfl
theorem b10_0 (E : En_) : B_ E 10 0 = K10_0 E := rfl
theorem l10 : L_ 10 = 3 := rfl
theorem b11_0 (E : En_) : B_ E 11 0 = K11_0 E := rfl
theorem l11 : L_ 11 = 1 := rfl
theorem b12_0 (E : En_) : B_ E 12 0 = K12_0 E := rfl
theorem b12_1 (E : En_) : B_ E 12 1 = K12_1 E := rfl
theorem b12_2 (E : En_) : B_ E 12 2 = K12_2 E := rfl
theorem b12_3 (E : En_) : B_ E 12 3 = K12_3 E := rfl
theorem b12_4 (E : En_) : B_ E 12 4 = K12_4 E := rfl
theorem l12 : L_ 12 = 4 := rfl
theorem b13_0 (E : En_) : B_ E 13 0 = K13_0 E := rfl
theorem b13_1 (E : En_) : B_ E 13 1 = K13_1 E := rfl
theorem l13 : L_ 13 = 4 := rfl
theorem b14_0 (E : En_) : B_ E 14 0 = K14_0 E := rfl
theorem b14_1 (E : En_) : B_ E 14 1 = K14_1 E := rfl
theorem l14 : L_ 14 = 6 := rfl
theorem b15_0 (E : En_) : B_ E 15 0 = K15_0 E := rfl
theorem b15_1 (E : En_) : B_ E 15 1 = K15_1 E := rfl
theorem l15 : L_ 15 = 3 := rfl
theorem b16_0 (E : En_) : B_ E 16 0 = K16_0 E := rfl
theorem b16_1 (E : En_) : B_ E 16 1 = K16_1 E := rfl
theorem l16 : L_ 16 = 3 := rfl
theorem b17_0 (E : En_) : B_ E 17 0 = K17_0 E := rfl
theorem b17_1 (E : En_) : B_ E 17 1 = K17_1 E := rfl
theorem b17_2 (E : En_) : B_ E 17 2 = K17_2 E := rfl
theorem l17 : L_ 17 = 3 := rfl
theorem b18_0 (E : En_) : B_ E 18 0 = K18_0 E := rfl
theorem l18 : L_ 18 = 5 := rfl
theorem b19_0 (E : En_) : B_ E 19 0 = K19_0 E := rfl
theorem b19_1 (E : En_) : B_ E 19 1 = K19_1 E := rfl
theorem l19 : L_ 19 = 2 := rfl
theorem b20_0 (E : En_) : B_ E 20 0 = K20_0 E := rfl
theorem l20 : L_ 20 = 2 := rfl
theorem b21_0 (E : En_) : B_ E 21 0 = K21_0 E := rfl
theorem b21_1 (E : En_) : B_ E 21 1 = K21_1 E := rfl
theorem b21_2 (E : En_) : B_ E 21 2 = K21_2 E := rfl
theorem l21 : L_ 21 = 4 := rfl
theorem b22_0 (E : En_) : B_ E 22 0 = K22_0 E := rfl
theorem b22_1 (E : En_) : B_ E 22 1 = K22_1 E := rfl
theorem b22_2 (E : En_) : B_ E 22 2 = K22_2 E := rfl
theorem l22 : L_ 22 = 1 := rfl
theorem b23_0 (E : En_) : B_ E 23 0 = K23_0 E := rfl
theorem b23_1 (E : En_) : B_ E 23 1 = K23_1 E := rfl
theorem b23_2 (E : En_) : B_ E 23 2 = K23_2 E := rfl
theorem b23_3 (E : En_) : B_ E 23 3 = K23_3 E := rfl
theorem b23_4 (E : En_) : B_ E 23 4 = K23_4 E := rfl
theorem l23 : L_ 23 = 3 := rfl
theorem b24_0 (E : En_) : B_ E 24 0 = K24_0 E := rfl
theorem l24 : L_ 24 = 2 := rfl
theorem b25_0 (E : En_) : B_ E 25 0 = K25_0 E := rfl
theorem l25 : L_ 25 = 1 := rfl
theorem b26_0 (E : En_) : B_ E 26 0 = K26_0 E := rfl
theorem l26 : L_ 26 = 1 := rfl
theorem b27_0 (E : En_) : B_ E 27 0 = K27_0 E := rfl
theorem l27 : L_ 27 = 2 := rfl
theorem b28_0 (E : En_) : B_ E 28 0 = K28_0 E := rfl
theorem l28 : L_ 28 = 2 := rfl
theorem b29_0 (E : En_) : B_ E 29 0 = K29_0 E := rfl
theorem l29 : L_ 29 = 1 := rfl
theorem b30_0 (E : En_) : B_ E 30 0 = K30_0 E := rfl
theorem b30_1 (E : En_) : B_ E 30 1 = K30_1 E := rfl
theorem b30_2 (E : En_) : B_ E 30 2 = K30_2 E := rfl
theorem l30 : L_ 30 = 2 := rfl
theorem b31_0 (E : En_) : B_ E 31 0 = K31_0 E := rfl
theorem l31 : L_ 31 = 2 := rfl
theorem b32_0 (E : En_) : B_ E 32 0 = K32_0 E := rfl
theorem b32_1 (E : En_) : B_ E 32 1 = K32_1 E := rfl
theorem l32 : L_ 32 = 4 := rfl
theorem b33_0 (E : En_) : B_ E 33 0 = K33_0 E := rfl
theorem l33 : L_ 33 = 1 := rfl
theorem b34_0 (E : En_) : B_ E 34 0 = K34_0 E := rfl
theorem b34_1 (E : En_) : B_ E 34 1 = K34_1 E := rfl
theorem b34_2 (E : En_) : B_ E 34 2 = K34_2 E := rfl
theorem l34 : L_ 34 = 4 := rfl
theorem b35_0 (E : En_) : B_ E 35 0 = K35_0 E := rfl
theorem b35_1 (E : En_) : B_ E 35 1 = K35_1 E := rfl
theorem l35 : L_ 35 = 5 := rfl
theorem b36_0 (E : En_) : B_ E 36 0 = K36_0 E := rfl
theorem b36_1 (E : En_) : B_ E 36 1 = K36_1 E := rfl
theorem b36_2 (E : En_) : B_ E 36 2 = K36_2 E := rfl
theorem l36 : L_ 36 = 1 := rfl
theorem b37_0 (E : En_) : B_ E 37 0 = K37_0 E := rfl
theorem b37_1 (E : En_) : B_ E 37 1 = K37_1 E := rfl
theorem b37_2 (E : En_) : B_ E 37 2 = K37_2 E := rfl
theorem l37 : L_ 37 = 3 := rfl
theorem b38_0 (E : En_) : B_ E 38 0 = K38_0 E := rfl
theorem b38_1 (E : En_) : B_ E 38 1 = K38_1 E := rfl
theorem b38_2 (E : En_) : B_ E 38 2 = K38_2 E := rfl
theorem b38_3 (E : En_) : B_ E 38 3 = K38_3 E := rfl
theorem l38 : L_ 38 = 5 := rfl
theorem b39_0 (E : En_) : B_ E 39 0 = K39_0 E := rfl
theorem l39 : L_ 39 = 5 := rfl
theorem b40_0 (E : En_) : B_ E 40 0 = K40_0 E := rfl
theorem l40 : L_ 40 = 1 := rfl
theorem b41_0 (E : En_) : B_ E 41 0 = K41_0 E := rfl
theorem b41_1 (E : En_) : B_ E 41 1 = K41_1 E := rfl
theorem b41_2 (E : En_) : B_ E 41 2 = K41_2 E := rfl
theorem b41_3 (E : En_) : B_ E 41 3 = K41_3 E := rfl
theorem b41_4 (E : En_) : B_ E 41 4 = K41_4 E := rfl
theorem l41 : L_ 41 = 4 := rfl
theorem b42_0 (E : En_) : B_ E 42 0 = K42_0 E := rfl
theorem b42_1 (E : En_) : B_ E 42 1 = K42_1 E := rfl
theorem b42_2 (E : En_) : B_ E 42 2 = K42_2 E := rfl
theorem b42_3 (E : En_) : B_ E 42 3 = K42_3 E := rfl
theorem b42_4 (E : En_) : B_ E 42 4 = K42_4 E := rfl
theorem b42_5 (E : En_) : B_ E 42 5 = K42_5 E := rfl
theorem b42_6 (E : En_) : B_ E 42 6 = K42_6 E := rfl
theorem l42 : L_ 42 = 7 := rfl
theorem b43_0 (E : En_) : B_ E 43 0 = K43_0 E := rfl
theorem l43 : L_ 43 = 1 := rfl
theorem b44_0 (E : En_) : B_ E 44 0 = K44_0 E := rfl
theorem b44_1 (E : En_) : B_ E 44 1 = K44_1 E := rfl
theorem l44 : L_ 44 = 1 := rfl
theorem b45_0 (E : En_) : B_ E 45 0 = K45_0 E := rfl
theorem l45 : L_ 45 = 2 := rfl
theorem b46_0 (E : En_) : B_ E 46 0 = K46_0 E := rfl
theorem l46 : L_ 46 = 2 := rfl
theorem b47_0 (E : En_) : B_ E 47 0 = K47_0 E := rfl
theorem b47_1 (E : En_) : B_ E 47 1 = K47_1 E := rfl
theorem b47_2 (E : En_) : B_ E 47 2 = K47_2 E := rfl
theorem l47 : L_ 47 = 1 := rfl
theorem b48_0 (E : En_) : B_ E 48 0 = K48_0 E := rfl
theorem b48_1 (E : En_) : B_ E 48 1 = K48_1 E := rfl
theorem b48_2 (E : En_) : B_ E 48 2 = K48_2 E := rfl
theorem l48 : L_ 48 = 3 := rfl
theorem b49_0 (E : En_) : B_ E 49 0 = K49_0 E := rfl
theorem b49_1 (E : En_) : B_ E 49 1 = K49_1 E := rfl
theorem l49 : L_ 49 = 1 := rfl
theorem b50_0 (E : En_) : B_ E 50 0 = K50_0 E := rfl
theorem l50 : L_ 50 = 1 := rfl
theorem b51_0 (E : En_) : B_ E 51 0 = K51_0 E := rfl
theorem l51 : L_ 51 = 4 := rfl
theorem b52_0 (E : En_) : B_ E 52 0 = K52_0 E := rfl
theorem l52 : L_ 52 = 1 := rfl
theorem b53_0 (E : En_) : B_ E 53 0 = K53_0 E := rfl
theorem l53 : L_ 53 = 1 := rfl
theorem b54_0 (E : En_) : B_ E 54 0 = K54_0 E := rfl
theorem b54_1 (E : En_) : B_ E 54 1 = K54_1 E := rfl
theorem b54_2 (E : En_) : B_ E 54 2 = K54_2 E := rfl
theorem l54 : L_ 54 = 4 := rfl
theorem b55_0 (E : En_) : B_ E 55 0 = K55_0 E := rfl
theorem b55_1 (E : En_) : B_ E 55 1 = K55_1 E := rfl
theorem b55_2 (E : En_) : B_ E 55 2 = K55_2 E := rfl
theorem l55 : L_ 55 = 3 := rfl
theorem b56_0 (E : En_) : B_ E 56 0 = K56_0 E := rfl
theorem b56_1 (E : En_) : B_ E 56 1 = K56_1 E := rfl
theorem l56 : L_ 56 = 2 := rfl
theorem b57_0 (E : En_) : B_ E 57 0 = K57_0 E := rfl
theorem b57_1 (E : En_) : B_ E 57 1 = K57_1 E := rfl
theorem b57_2 (E : En_) : B_ E 57 2 = K57_2 E := rfl
theorem l57 : L_ 57 = 4 := rfl
theorem b58_0 (E : En_) : B_ E 58 0 = K58_0 E := rfl
theorem l58 : L_ 58 = 2 := rfl
theorem b59_0 (E : En_) : B_ E 59 0 = K59_0 E := rfl
theorem b59_1 (E : En_) : B_ E 59 1 = K59_1 E := rfl
theorem l59 : L_ 59 = 2 := rfl
theorem b60_0 (E : En_) : B_ E 60 0 = K60_0 E := rfl
theorem b60_1 (E : En_) : B_ E 60 1 = K60_1 E := rfl
theorem b60_2 (E : En_) : B_ E 60 2 = K60_2 E := rfl
theorem l60 : L_ 60 = 4 := rfl
theorem b61_0 (E : En_) : B_ E 61 0 = K61_0 E := rfl
theorem b61_1 (E : En_) : B_ E 61 1 = K61_1 E := rfl
theorem b61_2 (E : En_) : B_ E 61 2 = K61_2 E := rfl
theorem l61 : L_ 61 = 2 := rfl
theorem b62_0 (E : En_) : B_ E 62 0 = K62_0 E := rfl
theorem b62_1 (E : En_) : B_ E 62 1 = K62_1 E := rfl
theorem b62_2 (E : En_) : B_ E 62 2 = K62_2 E := rfl
theorem b62_3 (E : En_) : B_ E 62 3 = K62_3 E := rfl
theorem l62 : L_ 62 = 2 := rfl
theorem b63_0 (E : En_) : B_ E 63 0 = K63_0 E := rfl
theorem b63_1 (E : En_) : B_ E 63 1 = K63_1 E := rfl
theorem l63 : L_ 63 = 3 := rfl
theorem b64_0 (E : En_) : B_ E 64 0 = K64_0 E := rfl
theorem b64_1 (E : En_) : B_ E 64 1 = K64_1 E := rfl
theorem l64 : L_ 64 = 6 := rfl
theorem b65_0 (E : En_) : B_ E 65 0 = K65_0 E := rfl
theorem b65_1 (E : En_) : B_ E 65 1 = K65_1 E := rfl
theorem b65_2 (E : En_) : B_ E 65 2 = K65_2 E := rfl
theorem l65 : L_ 65 = 1 := rfl
theorem b66_0 (E : En_) : B_ E 66 0 = K66_0 E := rfl
theorem l66 : L_ 66 = 1 := rfl
theorem b67_0 (E : En_) : B_ E 67 0 = K67_0 E := rfl
theorem l67 : L_ 67 = 1 := rfl
theorem b68_0 (E : En_) : B_ E 68 0 = K68_0 E := rfl
theorem b68_1 (E : En_) : B_ E 68 1 = K68_1 E := rfl
theorem b68_2 (E : En_) : B_ E 68 2 = K68_2 E := rfl
theorem l68 : L_ 68 = 4 := rfl
theorem b69_0 (E : En_) : B_ E 69 0 = K69_0 E := rfl
theorem b69_1 (E : En_) : B_ E 69 1 = K69_1 E := rfl
theorem l69 : L_ 69 = 3 := rfl
theorem b70_0 (E : En_) : B_ E 70 0 = K70_0 E := rfl
theorem l70 : L_ 70 = 3 := rfl
theorem b71_0 (E : En_) : B_ E 71 0 = K71_0 E := rfl
theorem b71_1 (E : En_) : B_ E 71 1 = K71_1 E := rfl
theorem l71 : L_ 71 = 2 := rfl
theorem b72_0 (E : En_) : B_ E 72 0 = K72_0 E := rfl
theorem b72_1 (E : En_) : B_ E 72 1 = K72_1 E := rfl
theorem b72_2 (E : En_) : B_ E 72 2 = K72_2 E := rfl
theorem b72_3 (E : En_) : B_ E 72 3 = K72_3 E := rfl
theorem b72_4 (E : En_) : B_ E 72 4 = K72_4 E := rfl
theorem l72 : L_ 72 = 2 := rfl
theorem b73_0 (E : En_) : B_ E 73 0 = K73_0 E := rfl
theorem b73_1 (E : En_) : B_ E 73 1 = K73_1 E := rfl
theorem l73 : L_ 73 = 5 := rfl
theorem b74_0 (E : En_) : B_ E 74 0 = K74_0 E := rfl
theorem l74 : L_ 74 = 1 := rfl
theorem b75_0 (E : En_) : B_ E 75 0 = K75_0 E := rfl
theorem l75 : L_ 75 = 2 := rfl
theorem b76_0 (E : En_) : B_ E 76 0 = K76_0 E := rfl
theorem l76 : L_ 76 = 1 := rfl
theorem b77_0 (E : En_) : B_ E 77 0 = K77_0 E := rfl
theorem l77 : L_ 77 = 1 := rfl
theorem b78_0 (E : En_) : B_ E 78 0 = K78_0 E := rfl
theorem l78 : L_ 78 = 2 := rfl
theorem b79_0 (E : En_) : B_ E 79 0 = K79_0 E := rfl
theorem l79 : L_ 79 = 2 := rfl
theorem b80_0 (E : En_) : B_ E 80 0 = K80_0 E := rfl
theorem l80 : L_ 80 = 2 := rfl
theorem b81_0 (E : En_) : B_ E 81 0 = K81_0 E := rfl
theorem l81 : L_ 81 = 2 := rfl
theorem b82_0 (E : En_) : B_ E 82 0 = K82_0 E := rfl
theorem l82 : L_ 82 = 2 := rfl
theorem b83_0 (E : En_) : B_ E 83 0 = K83_0 E := rfl
theorem l83 : L_ 83 = 2 := rfl
theorem b84_0 (E : En_) : B_ E 84 0 = K84_0 E := rfl
theorem b84_1 (E : En_) : B_ E 84 1 = K84_1 E := rfl
theorem b84_2 (E : En_) : B_ E 84 2 = K84_2 E := rfl
theorem b84_3 (E : En_) : B_ E 84 3 = K84_3 E := rfl
theorem l84 : L_ 84 = 5 := rfl
theorem b85_0 (E : En_) : B_ E 85 0 = K85_0 E := rfl
theorem l85 : L_ 85 = 1 := rfl
theorem b86_0 (E : En_) : B_ E 86 0 = K86_0 E := rfl
theorem b86_1 (E : En_) : B_ E 86 1 = K86_1 E := rfl
theorem b86_2 (E : En_) : B_ E 86 2 = K86_2 E := rfl
theorem l86 : L_ 86 = 1 := rfl
theorem b87_0 (E : En_) : B_ E 87 0 = K87_0 E := rfl
theorem b87_1 (E : En_) : B_ E 87 1 = K87_1 E := rfl
theorem b87_2 (E : En_) : B_ E 87 2 = K87_2 E := rfl
theorem l87 : L_ 87 = 4 := rfl
theorem b88_0 (E : En_) : B_ E 88 0 = K88_0 E := rfl
theorem b88_1 (E : En_) : B_ E 88 1 = K88_1 E := rfl
theorem b88_2 (E : En_) : B_ E 88 2 = K88_2 E := rfl
theorem b88_3 (E : En_) : B_ E 88 3 = K88_3 E := rfl
theorem b88_4 (E : En_) : B_ E 88 4 = K88_4 E := rfl
theorem l88 : L_ 88 = 3 := rfl
theorem b89_0 (E : En_) : B_ E 89 0 = K89_0 E := rfl
theorem b89_1 (E : En_) : B_ E 89 1 = K89_1 E := rfl
theorem l89 : L_ 89 = 2 := rfl
theorem b90_0 (E : En_) : B_ E 90 0 = K90_0 E := rfl
theorem b90_1 (E : En_) : B_ E 90 1 = K90_1 E := rfl
theorem b90_2 (E : En_) : B_ E 90 2 = K90_2 E := rfl
theorem l90 : L_ 90 = 1 := rfl
theorem b91_0 (E : En_) : B_ E 91 0 = K91_0 E := rfl
theorem l91 : L_ 91 = 5 := rfl
theorem b92_0 (E : En_) : B_ E 92 0 = K92_0 E := rfl
theorem l92 : L_ 92 = 6 := rfl
theorem b93_0 (E : En_) : B_ E 93 0 = K93_0 E := rfl
theorem l93 : L_ 93 = 1 := rfl
theorem b94_0 (E : En_) : B_ E 94 0 = K94_0 E := rfl
theorem b94_1 (E : En_) : B_ E 94 1 = K94_1 E := rfl
theorem b94_2 (E : En_) : B_ E 94 2 = K94_2 E := rfl
theorem l94 : L_ 94 = 2 := rfl
theorem b95_0 (E : En_) : B_ E 95 0 = K95_0 E := rfl
theorem l95 : L_ 95 = 1 := rfl
theorem b96_0 (E : En_) : B_ E 96 0 = K96_0 E := rfl
theorem b96_1 (E : En_) : B_ E 96 1 = K96_1 E := rfl
theorem b96_2 (E : En_) : B_ E 96 2 = K96_2 E := rfl
theorem b96_3 (E : En_) : B_ E 96 3 = K96_3 E := rfl
theorem b96_4 (E : En_) : B_ E 96 4 = K96_4 E := rfl
theorem b96_5 (E : En_) : B_ E 96 5 = K96_5 E := rfl
theorem l96 : L_ 96 = 2 := rfl
theorem b97_0 (E : En_) : B_ E 97 0 = K97_0 E := rfl
theorem b97_1 (E : En_) : B_ E 97 1 = K97_1 E := rfl
theorem b97_2 (E : En_) : B_ E 97 2 = K97_2 E := rfl
theorem l97 : L_ 97 = 2 := rfl
theorem b98_0 (E : En_) : B_ E 98 0 = K98_0 E := rfl
theorem l98 : L_ 98 = 1 := rfl
theorem b99_0 (E : En_) : B_ E 99 0 = K99_0 E := rfl
theorem b99_1 (E : En_) : B_ E 99 1 = K99_1 E := rfl
theorem b99_2 (E : En_) : B_ E 99 2 = K99_2 E := rfl
theorem l99 : L_ 99 = 3 := rfl
theorem b100_0 (E : En_) : B_ E 100 0 = K100_0 E := rfl
theorem b100_1 (E : En_) : B_ E 100 1 = K100_1 E := rfl
theorem l100 : L_ 100 = 1 := rfl
theorem b101_0 (E : En_) : B_ E 101 0 = K101_0 E := rfl
theorem b101_1 (E : En_) : B_ E 101 1 = K101_1 E := rfl
theorem b101_2 (E : En_) : B_ E 101 2 = K101_2 E := rfl
theorem b101_3 (E : En_) : B_ E 101 3 = K101_3 E := rfl
theorem b101_4 (E : En_) : B_ E 101 4 = K101_4 E := rfl
theorem b101_5 (E : En_) : B_ E 101 5 = K101_5 E := rfl
theorem b101_6 (E : En_) : B_ E 101 6 = K101_6 E := rfl
theorem b101_7 (E : En_) : B_ E 101 7 = K101_7 E := rfl
theorem b101_8 (E : En_) : B_ E 101 8 = K101_8 E := rfl
theorem b101_9 (E : En_) : B_ E 101 9 = K101_9 E := rfl
theorem b101_10 (E : En_) : B_ E 101 10 = K101_10 E := rfl
theorem b101_11 (E : En_) : B_ E 101 11 = K101_11 E := rfl
theorem b101_12 (E : En_) : B_ E 101 12 = K101_12 E := rfl
theorem l101 : L_ 101 = 2 := rfl
theorem b102_0 (E : En_) : B_ E 102 0 = K102_0 E := rfl
theorem b102_1 (E : En_) : B_ E 102 1 = K102_1 E := rfl
theorem b102_2 (E : En_) : B_ E 102 2 = K102_2 E := rfl
theorem b102_3 (E : En_) : B_ E 102 3 = K102_3 E := rfl
theorem b102_4 (E : En_) : B_ E 102 4 = K102_4 E := rfl
theorem l102 : L_ 102 = 2 := rfl
theorem b103_0 (E : En_) : B_ E 103 0 = K103_0 E := rfl
theorem b103_1 (E : En_) : B_ E 103 1 = K103_1 E := rfl
theorem b103_2 (E : En_) : B_ E 103 2 = K103_2 E := rfl
theorem b103_3 (E : En_) : B_ E 103 3 = K103_3 E := rfl
theorem b103_4 (E : En_) : B_ E 103 4 = K103_4 E := rfl
theorem b103_5 (E : En_) : B_ E 103 5 = K103_5 E := rfl
theorem b103_6 (E : En_) : B_ E 103 6 = K103_6 E := rfl
theorem b103_7 (E : En_) : B_ E 103 7 = K103_7 E := rfl
theorem b103_8 (E : En_) : B_ E 103 8 = K103_8 E := rfl
theorem b103_9 (E : En_) : B_ E 103 9 = K103_9 E := rfl
theorem b103_10 (E : En_) : B_ E 103 10 = K103_10 E := rfl
theorem b103_11 (E : En_) : B_ E 103 11 = K103_11 E := rfl
theorem b103_12 (E : En_) : B_ E 103 12 = K103_12 E := rfl
theorem b103_13 (E : En_) : B_ E 103 13 = K103_13 E := rfl
theorem b103_14 (E : En_) : B_ E 103 14 = K103_14 E := rfl
theorem l103 : L_ 103 = 4 := rfl
theorem b104_0 (E : En_) : B_ E 104 0 = K104_0 E := rfl
theorem b104_1 (E : En_) : B_ E 104 1 = K104_1 E := rfl
theorem b104_2 (E : En_) : B_ E 104 2 = K104_2 E := rfl
theorem l104 : L_ 104 = 1 := rfl
theorem b105_0 (E : En_) : B_ E 105 0 = K105_0 E := rfl
theorem b105_1 (E : En_) : B_ E 105 1 = K105_1 E := rfl
theorem b105_2 (E : En_) : B_ E 105 2 = K105_2 E := rfl
theorem b105_3 (E : En_) : B_ E 105 3 = K105_3 E := rfl
theorem b105_4 (E : En_) : B_ E 105 4 = K105_4 E := rfl
theorem b105_5 (E : En_) : B_ E 105 5 = K105_5 E := rfl
theorem b105_6 (E : En_) : B_ E 105 6 = K105_6 E := rfl
theorem b105_7 (E : En_) : B_ E 105 7 = K105_7 E := rfl
theorem b105_8 (E : En_) : B_ E 105 8 = K105_8 E := rfl
theorem b105_9 (E : En_) : B_ E 105 9 = K105_9 E := rfl
theorem b105_10 (E : En_) : B_ E 105 10 = K105_10 E := rfl
theorem l105 : L_ 105 = 6 := rfl
theorem b106_0 (E : En_) : B_ E 106 0 = K106_0 E := rfl
theorem l106 : L_ 106 = 1 := rfl
theorem b107_0 (E : En_) : B_ E 107 0 = K107_0 E := rfl
theorem b107_1 (E : En_) : B_ E 107 1 = K107_1 E := rfl
theorem b107_2 (E : En_) : B_ E 107 2 = K107_2 E := rfl
theorem b107_3 (E : En_) : B_ E 107 3 = K107_3 E := rfl
theorem b107_4 (E : En_) : B_ E 107 4 = K107_4 E := rfl
theorem b107_5 (E : En_) : B_ E 107 5 = K107_5 E := rfl
theorem b107_6 (E : En_) : B_ E 107 6 = K107_6 E := rfl
theorem b107_7 (E : En_) : B_ E 107 7 = K107_7 E := rfl
theorem b107_8 (E : En_) : B_ E 107 8 = K107_8 E := rfl
theorem b107_9 (E : En_) : B_ E 107 9 = K107_9 E := rfl
theorem b107_10 (E : En_) : B_ E 107 10 = K107_10 E := rfl
theorem b107_11 (E : En_) : B_ E 107 11 = K107_11 E := rfl
theorem b107_12 (E : En_) : B_ E 107 12 = K107_12 E := rfl
theorem b107_13 (E : En_) : B_ E 107 13 = K107_13 E := rfl
theorem l107 : L_ 107 = 11 := rfl
theorem b108_0 (E : En_) : B_ E 108 0 = K108_0 E := rfl
theorem b108_1 (E : En_) : B_ E 108 1 = K108_1 E := rfl
theorem b108_2 (E : En_) : B_ E 108 2 = K108_2 E := rfl
theorem l108 : L_ 108 = 3 := rfl
theorem b109_0 (E : En_) : B_ E 109 0 = K109_0 E := rfl
theorem l109 : L_ 109 = 3 := rfl
theorem b110_0 (E : En_) : B_ E 110 0 = K110_0 E := rfl
theorem l110 : L_ 110 = 3 := rfl
theorem b111_0 (E : En_) : B_ E 111 0 = K111_0 E := rfl
theorem l111 : L_ 111 = 3 := rfl
theorem b112_0 (E : En_) : B_ E 112 0 = K112_0 E := rfl
theorem l112 : L_ 112 = 1 := rfl
theorem b113_0 (E : En_) : B_ E 113 0 = K113_0 E := rfl
theorem b113_1 (E : En_) : B_ E 113 1 = K113_1 E := rfl
theorem b113_2 (E : En_) : B_ E 113 2 = K113_2 E := rfl
theorem l113 : L_ 113 = 2 := rfl
theorem b114_0 (E : En_) : B_ E 114 0 = K114_0 E := rfl
theorem l114 : L_ 114 = 3 := rfl
theorem b115_0 (E : En_) : B_ E 115 0 = K115_0 E := rfl
theorem l115 : L_ 115 = 2 := rfl
theorem b116_0 (E : En_) : B_ E 116 0 = K116_0 E := rfl
theorem b116_1 (E : En_) : B_ E 116 1 = K116_1 E := rfl
theorem b116_2 (E : En_) : B_ E 116 2 = K116_2 E := rfl
theorem l116 : L_ 116 = 2 := rfl
theorem b117_0 (E : En_) : B_ E 117 0 = K117_0 E := rfl
theorem b117_1 (E : En_) : B_ E 117 1 = K117_1 E := rfl
theorem b117_2 (E : En_) : B_ E 117 2 = K117_2 E := rfl
theorem l117 : L_ 117 = 2 := rfl
theorem b118_0 (E : En_) : B_ E 118 0 = K118_0 E := rfl
theorem l118 : L_ 118 = 2 := rfl
theorem b119_0 (E : En_) : B_ E 119 0 = K119_0 E := rfl
theorem l119 : L_ 119 = 4 := rfl
theorem b120_0 (E : En_) : B_ E 120 0 = K120_0 E := rfl
theorem l120 : L_ 120 = 4 := rfl
theorem b121_0 (E : En_) : B_ E 121 0 = K121_0 E := rfl
theorem b121_1 (E : En_) : B_ E 121 1 = K121_1 E := rfl
theorem b121_2 (E : En_) : B_ E 121 2 = K121_2 E := rfl
theorem b121_3 (E : En_) : B_ E 121 3 = K121_3 E := rfl
theorem b121_4 (E : En_) : B_ E 121 4 = K121_4 E := rfl
theorem l121 : L_ 121 = 4 := rfl
theorem b122_0 (E : En_) : B_ E 122 0 = K122_0 E := rfl
theorem b122_1 (E : En_) : B_ E 122 1 = K122_1 E := rfl
theorem b122_2 (E : En_) : B_ E 122 2 = K122_2 E := rfl
theorem b122_3 (E : En_) : B_ E 122 3 = K122_3 E := rfl
theorem b122_4 (E : En_) : B_ E 122 4 = K122_4 E := rfl
theorem b122_5 (E : En_) : B_ E 122 5 = K122_5 E := rfl
theorem b122_6 (E : En_) : B_ E 122 6 = K122_6 E := rfl
theorem b122_7 (E : En_) : B_ E 122 7 = K122_7 E := rfl
theorem l122 : L_ 122 = 4 := rfl
theorem b123_0 (E : En_) : B_ E 123 0 = K123_0 E := rfl
theorem b123_1 (E : En_) : B_ E 123 1 = K123_1 E := rfl
theorem b123_2 (E : En_) : B_ E 123 2 = K123_2 E := rfl
theorem l123 : L_ 123 = 3 := rfl
theorem b124_0 (E : En_) : B_ E 124 0 = K124_0 E := rfl
theorem b124_1 (E : En_) : B_ E 124 1 = K124_1 E := rfl
theorem b124_2 (E : En_) : B_ E 124 2 = K124_2 E := rfl
theorem b124_3 (E : En_) : B_ E 124 3 = K124_3 E := rfl
theorem l124 : L_ 124 = 6 := rfl
theorem b125_0 (E : En_) : B_ E 125 0 = K125_0 E := rfl
theorem b125_1 (E : En_) : B_ E 125 1 = K125_1 E := rfl
theorem b125_2 (E : En_) : B_ E 125 2 = K125_2 E := rfl
theorem l125 : L_ 125 = 3 := rfl
theorem b126_0 (E : En_) : B_ E 126 0 = K126_0 E := rfl
theorem b126_1 (E : En_) : B_ E 126 1 = K126_1 E := rfl
theorem b126_2 (E : En_) : B_ E 126 2 = K126_2 E := rfl
theorem l126 : L_ 126 = 3 := rfl
theorem b127_0 (E : En_) : B_ E 127 0 = K127_0 E := rfl
theorem b127_1 (E : En_) : B_ E 127 1 = K127_1 E := rfl
theorem b127_2 (E : En_) : B_ E 127 2 = K127_2 E := rfl
theorem b127_3 (E : En_) : B_ E 127 3 = K127_3 E := rfl
theorem l127 : L_ 127 = 3 := rfl
theorem b128_0 (E : En_) : B_ E 128 0 = K128_0 E := rfl
theorem b128_1 (E : En_) : B_ E 128 1 = K128_1 E := rfl
theorem b128_2 (E : En_) : B_ E 128 2 = K128_2 E := rfl
theorem b128_3 (E : En_) : B_ E 128 3 = K128_3 E := rfl
theorem l128 : L_ 128 = 3 := rfl
theorem b129_0 (E : En_) : B_ E 129 0 = K129_0 E := rfl
theorem l129 : L_ 129 = 1 := rfl
theorem b130_0 (E : En_) : B_ E 130 0 = K130_0 E := rfl
theorem b130_1 (E : En_) : B_ E 130 1 = K130_1 E := rfl
theorem b130_2 (E : En_) : B_ E 130 2 = K130_2 E := rfl
theorem b130_3 (E : En_) : B_ E 130 3 = K130_3 E := rfl
theorem l130 : L_ 130 = 3 := rfl
theorem b131_0 (E : En_) : B_ E 131 0 = K131_0 E := rfl
theorem l131 : L_ 131 = 2 := rfl
theorem b132_0 (E : En_) : B_ E 132 0 = K132_0 E := rfl
theorem b132_1 (E : En_) : B_ E 132 1 = K132_1 E := rfl
theorem b132_2 (E : En_) : B_ E 132 2 = K132_2 E := rfl
theorem l132 : L_ 132 = 5 := rfl
theorem b133_0 (E : En_) : B_ E 133 0 = K133_0 E := rfl
theorem l133 : L_ 133 = 2 := rfl
theorem b134_0 (E : En_) : B_ E 134 0 = K134_0 E := rfl
theorem l134 : L_ 134 = 4 := rfl
theorem b135_0 (E : En_) : B_ E 135 0 = K135_0 E := rfl
theorem b135_1 (E : En_) : B_ E 135 1 = K135_1 E := rfl
theorem b135_2 (E : En_) : B_ E 135 2 = K135_2 E := rfl
theorem b135_3 (E : En_) : B_ E 135 3 = K135_3 E := rfl
theorem b135_4 (E : En_) : B_ E 135 4 = K135_4 E := rfl
theorem b135_5 (E : En_) : B_ E 135 5 = K135_5 E := rfl
theorem l135 : L_ 135 = 4 := rfl
theorem b136_0 (E : En_) : B_ E 136 0 = K136_0 E := rfl
theorem l136 : L_ 136 = 3 := rfl
theorem b137_0 (E : En_) : B_ E 137 0 = K137_0 E := rfl
theorem b137_1 (E : En_) : B_ E 137 1 = K137_1 E := rfl
theorem b137_2 (E : En_) : B_ E 137 2 = K137_2 E := rfl
theorem l137 : L_ 137 = 3 := rfl
theorem b138_0 (E : En_) : B_ E 138 0 = K138_0 E := rfl
theorem b138_1 (E : En_) : B_ E 138 1 = K138_1 E := rfl
theorem b138_2 (E : En_) : B_ E 138 2 = K138_2 E := rfl
theorem l138 : L_ 138 = 3 := rfl
theorem b139_0 (E : En_) : B_ E 139 0 = K139_0 E := rfl
theorem l139 : L_ 139 = 3 := rfl
theorem b140_0 (E : En_) : B_ E 140 0 = K140_0 E := rfl
theorem b140_1 (E : En_) : B_ E 140 1 = K140_1 E := rfl
theorem b140_2 (E : En_) : B_ E 140 2 = K140_2 E := rfl
theorem l140 : L_ 140 = 3 := rfl
theorem b141_0 (E : En_) : B_ E 141 0 = K141_0 E := rfl
theorem b141_1 (E : En_) : B_ E 141 1 = K141_1 E := rfl
theorem b141_2 (E : En_) : B_ E 141 2 = K141_2 E := rfl
theorem b141_3 (E : En_) : B_ E 141 3 = K141_3 E := rfl
theorem l141 : L_ 141 = 3 := rfl
theorem b142_0 (E : En_) : B_ E 142 0 = K142_0 E := rfl
theorem b142_1 (E : En_) : B_ E 142 1 = K142_1 E := rfl
theorem b142_2 (E : En_) : B_ E 142 2 = K142_2 E := rfl
theorem l142 : L_ 142 = 2 := rfl
theorem b143_0 (E : En_) : B_ E 143 0 = K143_0 E := rfl
theorem b143_1 (E : En_) : B_ E 143 1 = K143_1 E := rfl
theorem b143_2 (E : En_) : B_ E 143 2 = K143_2 E := rfl
theorem b143_3 (E : En_) : B_ E 143 3 = K143_3 E := rfl
theorem l143 : L_ 143 = 3 := rfl
theorem b144_0 (E : En_) : B_ E 144 0 = K144_0 E := rfl
theorem b144_1 (E : En_) : B_ E 144 1 = K144_1 E := rfl
theorem b144_2 (E : En_) : B_ E 144 2 = K144_2 E := rfl
theorem l144 : L_ 144 = 2 := rfl
theorem b145_0 (E : En_) : B_ E 145 0 = K145_0 E := rfl
theorem b145_1 (E : En_) : B_ E 145 1 = K145_1 E := rfl
theorem b145_2 (E : En_) : B_ E 145 2 = K145_2 E := rfl
theorem l145 : L_ 145 = 6 := rfl
theorem b146_0 (E : En_) : B_ E 146 0 = K146_0 E := rfl
theorem l146 : L_ 146 = 1 := rfl
theorem b147_0 (E : En_) : B_ E 147 0 = K147_0 E := rfl
theorem b147_1 (E : En_) : B_ E 147 1 = K147_1 E := rfl
theorem b147_2 (E : En_) : B_ E 147 2 = K147_2 E := rfl
theorem l147 : L_ 147 = 3 := rfl
theorem b148_0 (E : En_) : B_ E 148 0 = K148_0 E := rfl
theorem b148_1 (E : En_) : B_ E 148 1 = K148_1 E := rfl
theorem b148_2 (E : En_) : B_ E 148 2 = K148_2 E := rfl
theorem l148 : L_ 148 = 3 := rfl
theorem b149_0 (E : En_) : B_ E 149 0 = K149_0 E := rfl
theorem l149 : L_ 149 = 2 := rfl
theorem b150_0 (E : En_) : B_ E 150 0 = K150_0 E := rfl
theorem b150_1 (E : En_) : B_ E 150 1 = K150_1 E := rfl
theorem b150_2 (E : En_) : B_ E 150 2 = K150_2 E := rfl
theorem b150_3 (E : En_) : B_ E 150 3 = K150_3 E := rfl
theorem b150_4 (E : En_) : B_ E 150 4 = K150_4 E := rfl
theorem b150_5 (E : En_) : B_ E 150 5 = K150_5 E := rfl
theorem b150_6 (E : En_) : B_ E 150 6 = K150_6 E := rfl
theorem b150_7 (E : En_) : B_ E 150 7 = K150_7 E := rfl
theorem l150 : L_ 150 = 3 := rfl
theorem b151_0 (E : En_) : B_ E 151 0 = K151_0 E := rfl
theorem b151_1 (E : En_) : B_ E 151 1 = K151_1 E := rfl
theorem b151_2 (E : En_) : B_ E 151 2 = K151_2 E := rfl
theorem l151 : L_ 151 = 3 := rfl
theorem b152_0 (E : En_) : B_ E 152 0 = K152_0 E := rfl
theorem b152_1 (E : En_) : B_ E 152 1 = K152_1 E := rfl
theorem b152_2 (E : En_) : B_ E 152 2 = K152_2 E := rfl
theorem b152_3 (E : En_) : B_ E 152 3 = K152_3 E := rfl
theorem l152 : L_ 152 = 4 := rfl
theorem b153_0 (E : En_) : B_ E 153 0 = K153_0 E := rfl
theorem b153_1 (E : En_) : B_ E 153 1 = K153_1 E := rfl
theorem b153_2 (E : En_) : B_ E 153 2 = K153_2 E := rfl
theorem b153_3 (E : En_) : B_ E 153 3 = K153_3 E := rfl
theorem l153 : L_ 153 = 4 := rfl
theorem b154_0 (E : En_) : B_ E 154 0 = K154_0 E := rfl
theorem b154_1 (E : En_) : B_ E 154 1 = K154_1 E := rfl
theorem b154_2 (E : En_) : B_ E 154 2 = K154_2 E := rfl
theorem b154_3 (E : En_) : B_ E 154 3 = K154_3 E := rfl
theorem l154 : L_ 154 = 3 := rfl
theorem b155_0 (E : En_) : B_ E 155 0 = K155_0 E := rfl
theorem b155_1 (E : En_) : B_ E 155 1 = K155_1 E := rfl
theorem b155_2 (E : En_) : B_ E 155 2 = K155_2 E := rfl
theorem l155 : L_ 155 = 2 := rfl
theorem b156_0 (E : En_) : B_ E 156 0 = K156_0 E := rfl
theorem b156_1 (E : En_) : B_ E 156 1 = K156_1 E := rfl
theorem b156_2 (E : En_) : B_ E 156 2 = K156_2 E := rfl
theorem l156 : L_ 156 = 2 := rfl
theorem b157_0 (E : En_) : B_ E 157 0 = K157_0 E := rfl
theorem b157_1 (E : En_) : B_ E 157 1 = K157_1 E := rfl
theorem b157_2 (E : En_) : B_ E 157 2 = K157_2 E := rfl
theorem b157_3 (E : En_) : B_ E 157 3 = K157_3 E := rfl
theorem b157_4 (E : En_) : B_ E 157 4 = K157_4 E := rfl
theorem b157_5 (E : En_) : B_ E 157 5 = K157_5 E := rfl
theorem b157_6 (E : En_) : B_ E 157 6 = K157_6 E := rfl
theorem b157_7 (E : En_) : B_ E 157 7 = K157_7 E := rfl
theorem b157_8 (E : En_) : B_ E 157 8 = K157_8 E := rfl
theorem b157_9 (E : En_) : B_ E 157 9 = K157_9 E := rfl
theorem b157_10 (E : En_) : B_ E 157 10 = K157_10 E := rfl
theorem l157 : L_ 157 = 4 := rfl
theorem b158_0 (E : En_) : B_ E 158 0 = K158_0 E := rfl
theorem b158_1 (E : En_) : B_ E 158 1 = K158_1 E := rfl
theorem b158_2 (E : En_) : B_ E 158 2 = K158_2 E := rfl
theorem l158 : L_ 158 = 2 := rfl
theorem b159_0 (E : En_) : B_ E 159 0 = K159_0 E := rfl
theorem b159_1 (E : En_) : B_ E 159 1 = K159_1 E := rfl
theorem b159_2 (E : En_) : B_ E 159 2 = K159_2 E := rfl
theorem b159_3 (E : En_) : B_ E 159 3 = K159_3 E := rfl
theorem b159_4 (E : En_) : B_ E 159 4 = K159_4 E := rfl
theorem b159_5 (E : En_) : B_ E 159 5 = K159_5 E := rfl
theorem b159_6 (E : En_) : B_ E 159 6 = K159_6 E := rfl
theorem b159_7 (E : En_) : B_ E 159 7 = K159_7 E := rfl
theorem l159 : L_ 159 = 3 := rfl
theorem b160_0 (E : En_) : B_ E 160 0 = K160_0 E := rfl
theorem l160 : L_ 160 = 2 := rfl
theorem b161_0 (E : En_) : B_ E 161 0 = K161_0 E := rfl
theorem b161_1 (E : En_) : B_ E 161 1 = K161_1 E := rfl
theorem b161_2 (E : En_) : B_ E 161 2 = K161_2 E := rfl
theorem b161_3 (E : En_) : B_ E 161 3 = K161_3 E := rfl
theorem l161 : L_ 161 = 3 := rfl
theorem b162_0 (E : En_) : B_ E 162 0 = K162_0 E := rfl
theorem b162_1 (E : En_) : B_ E 162 1 = K162_1 E := rfl
theorem b162_2 (E : En_) : B_ E 162 2 = K162_2 E := rfl
theorem b162_3 (E : En_) : B_ E 162 3 = K162_3 E := rfl
theorem b162_4 (E : En_) : B_ E 162 4 = K162_4 E := rfl
theorem b162_5 (E : En_) : B_ E 162 5 = K162_5 E := rfl
theorem b162_6 (E : En_) : B_ E 162 6 = K162_6 E := rfl
theorem b162_7 (E : En_) : B_ E 162 7 = K162_7 E := rfl
theorem b162_8 (E : En_) : B_ E 162 8 = K162_8 E := rfl
theorem b162_9 (E : En_) : B_ E 162 9 = K162_9 E := rfl
theorem b162_10 (E : En_) : B_ E 162 10 = K162_10 E := rfl
theorem b162_11 (E : En_) : B_ E 162 11 = K162_11 E := rfl
theorem b162_12 (E : En_) : B_ E 162 12 = K162_12 E := rfl
theorem l162 : L_ 162 = 5 := rfl
theorem b163_0 (E : En_) : B_ E 163 0 = K163_0 E := rfl
theorem b163_1 (E : En_) : B_ E 163 1 = K163_1 E := rfl
theorem b163_2 (E : En_) : B_ E 163 2 = K163_2 E := rfl
theorem b163_3 (E : En_) : B_ E 163 3 = K163_3 E := rfl
theorem b163_4 (E : En_) : B_ E 163 4 = K163_4 E := rfl
theorem l163 : L_ 163 = 5 := rfl
theorem b164_0 (E : En_) : B_ E 164 0 = K164_0 E := rfl
theorem b164_1 (E : En_) : B_ E 164 1 = K164_1 E := rfl
theorem b164_2 (E : En_) : B_ E 164 2 = K164_2 E := rfl
theorem b164_3 (E : En_) : B_ E 164 3 = K164_3 E := rfl
theorem b164_4 (E : En_) : B_ E 164 4 = K164_4 E := rfl
theorem l164 : L_ 164 = 4 := rfl
theorem b165_0 (E : En_) : B_ E 165 0 = K165_0 E := rfl
theorem b165_1 (E : En_) : B_ E 165 1 = K165_1 E := rfl
theorem b165_2 (E : En_) : B_ E 165 2 = K165_2 E := rfl
theorem b165_3 (E : En_) : B_ E 165 3 = K165_3 E := rfl
theorem b165_4 (E : En_) : B_ E 165 4 = K165_4 E := rfl
theorem b165_5 (E : En_) : B_ E 165 5 = K165_5 E := rfl
theorem b165_6 (E : En_) : B_ E 165 6 = K165_6 E := rfl
theorem b165_7 (E : En_) : B_ E 165 7 = K165_7 E := rfl
theorem b165_8 (E : En_) : B_ E 165 8 = K165_8 E := rfl
theorem b165_9 (E : En_) : B_ E 165 9 = K165_9 E := rfl
theorem b165_10 (E : En_) : B_ E 165 10 = K165_10 E := rfl
theorem l165 : L_ 165 = 7 := rfl
theorem b166_0 (E : En_) : B_ E 166 0 = K166_0 E := rfl
theorem b166_1 (E : En_) : B_ E 166 1 = K166_1 E := rfl
theorem b166_2 (E : En_) : B_ E 166 2 = K166_2 E := rfl
theorem b166_3 (E : En_) : B_ E 166 3 = K166_3 E := rfl
theorem l166 : L_ 166 = 3 := rfl
theorem b167_0 (E : En_) : B_ E 167 0 = K167_0 E := rfl
theorem b167_1 (E : En_) : B_ E 167 1 = K167_1 E := rfl
theorem b167_2 (E : En_) : B_ E 167 2 = K167_2 E := rfl
theorem b167_3 (E : En_) : B_ E 167 3 = K167_3 E := rfl
theorem b167_4 (E : En_) : B_ E 167 4 = K167_4 E := rfl
theorem b167_5 (E : En_) : B_ E 167 5 = K167_5 E := rfl
theorem b167_6 (E : En_) : B_ E 167 6 = K167_6 E := rfl
theorem b167_7 (E : En_) : B_ E 167 7 = K167_7 E := rfl
theorem b167_8 (E : En_) : B_ E 167 8 = K167_8 E := rfl
theorem b167_9 (E : En_) : B_ E 167 9 = K167_9 E := rfl
theorem b167_10 (E : En_) : B_ E 167 10 = K167_10 E := rfl
theorem l167 : L_ 167 = 3 := rfl
theorem b168_0 (E : En_) : B_ E 168 0 = K168_0 E := rfl
theorem l168 : L_ 168 = 2 := rfl
theorem b169_0 (E : En_) : B_ E 169 0 = K169_0 E := rfl
theorem l169 : L_ 169 = 2 := rfl
theorem b170_0 (E : En_) : B_ E 170 0 = K170_0 E := rfl
theorem b170_1 (E : En_) : B_ E 170 1 = K170_1 E := rfl
theorem b170_2 (E : En_) : B_ E 170 2 = K170_2 E := rfl
theorem b170_3 (E : En_) : B_ E 170 3 = K170_3 E := rfl
theorem b170_4 (E : En_) : B_ E 170 4 = K170_4 E := rfl
theorem l170 : L_ 170 = 3 := rfl
theorem b171_0 (E : En_) : B_ E 171 0 = K171_0 E := rfl
theorem b171_1 (E : En_) : B_ E 171 1 = K171_1 E := rfl
theorem b171_2 (E : En_) : B_ E 171 2 = K171_2 E := rfl
theorem b171_3 (E : En_) : B_ E 171 3 = K171_3 E := rfl
theorem b171_4 (E : En_) : B_ E 171 4 = K171_4 E := rfl
theorem l171 : L_ 171 = 11 := rfl
theorem b172_0 (E : En_) : B_ E 172 0 = K172_0 E := rfl
theorem b172_1 (E : En_) : B_ E 172 1 = K172_1 E := rfl
theorem b172_2 (E : En_) : B_ E 172 2 = K172_2 E := rfl
theorem b172_3 (E : En_) : B_ E 172 3 = K172_3 E := rfl
theorem b172_4 (E : En_) : B_ E 172 4 = K172_4 E := rfl
theorem b172_5 (E : En_) : B_ E 172 5 = K172_5 E := rfl
theorem b172_6 (E : En_) : B_ E 172 6 = K172_6 E := rfl
theorem l172 : L_ 172 = 7 := rfl
theorem b173_0 (E : En_) : B_ E 173 0 = K173_0 E := rfl
theorem b173_1 (E : En_) : B_ E 173 1 = K173_1 E := rfl
theorem b173_2 (E : En_) : B_ E 173 2 = K173_2 E := rfl
theorem b173_3 (E : En_) : B_ E 173 3 = K173_3 E := rfl
theorem b173_4 (E : En_) : B_ E 173 4 = K173_4 E := rfl
theorem b173_5 (E : En_) : B_ E 173 5 = K173_5 E := rfl
theorem l173 : L_ 173 = 5 := rfl
theorem b174_0 (E : En_) : B_ E 174 0 = K174_0 E := rfl
theorem l174 : L_ 174 = 1 := rfl
theorem b175_0 (E : En_) : B_ E 175 0 = K175_0 E := rfl
theorem b175_1 (E : En_) : B_ E 175 1 = K175_1 E := rfl
theorem b175_2 (E : En_) : B_ E 175 2 = K175_2 E := rfl
theorem b175_3 (E : En_) : B_ E 175 3 = K175_3 E := rfl
theorem b175_4 (E : En_) : B_ E 175 4 = K175_4 E := rfl
theorem b175_5 (E : En_) : B_ E 175 5 = K175_5 E := rfl
theorem b175_6 (E : En_) : B_ E 175 6 = K175_6 E := rfl
theorem l175 : L_ 175 = 7 := rfl
theorem b176_0 (E : En_) : B_ E 176 0 = K176_0 E := rfl
theorem b176_1 (E : En_) : B_ E 176 1 = K176_1 E := rfl
theorem b176_2 (E : En_) : B_ E 176 2 = K176_2 E := rfl
theorem b176_3 (E : En_) : B_ E 176 3 = K176_3 E := rfl
theorem l176 : L_ 176 = 2 := rfl
theorem b177_0 (E : En_) : B_ E 177 0 = K177_0 E := rfl
theorem b177_1 (E : En_) : B_ E 177 1 = K177_1 E := rfl
theorem b177_2 (E : En_) : B_ E 177 2 = K177_2 E := rfl
theorem b177_3 (E : En_) : B_ E 177 3 = K177_3 E := rfl
theorem l177 : L_ 177 = 4 := rfl
theorem b178_0 (E : En_) : B_ E 178 0 = K178_0 E := rfl
theorem b178_1 (E : En_) : B_ E 178 1 = K178_1 E := rfl
theorem b178_2 (E : En_) : B_ E 178 2 = K178_2 E := rfl
theorem b178_3 (E : En_) : B_ E 178 3 = K178_3 E := rfl
theorem b178_4 (E : En_) : B_ E 178 4 = K178_4 E := rfl
theorem b178_5 (E : En_) : B_ E 178 5 = K178_5 E := rfl
theorem b178_6 (E : En_) : B_ E 178 6 = K178_6 E := rfl
theorem l178 : L_ 178 = 5 := rfl
theorem b179_0 (E : En_) : B_ E 179 0 = K179_0 E := rfl
theorem b179_1 (E : En_) : B_ E 179 1 = K179_1 E := rfl
theorem b179_2 (E : En_) : B_ E 179 2 = K179_2 E := rfl
theorem b179_3 (E : En_) : B_ E 179 3 = K179_3 E := rfl
theorem b179_4 (E : En_) : B_ E 179 4 = K179_4 E := rfl
theorem b179_5 (E : En_) : B_ E 179 5 = K179_5 E := rfl
theorem b179_6 (E : En_) : B_ E 179 6 = K179_6 E := rfl
theorem l179 : L_ 179 = 5 := rfl
theorem b180_0 (E : En_) : B_ E 180 0 = K180_0 E := rfl
theorem b180_1 (E : En_) : B_ E 180 1 = K180_1 E := rfl
theorem b180_2 (E : En_) : B_ E 180 2 = K180_2 E := rfl
theorem b180_3 (E : En_) : B_ E 180 3 = K180_3 E := rfl
theorem b180_4 (E : En_) : B_ E 180 4 = K180_4 E := rfl
theorem l180 : L_ 180 = 4 := rfl
theorem b181_0 (E : En_) : B_ E 181 0 = K181_0 E := rfl
theorem b181_1 (E : En_) : B_ E 181 1 = K181_1 E := rfl
theorem b181_2 (E : En_) : B_ E 181 2 = K181_2 E := rfl
theorem b181_3 (E : En_) : B_ E 181 3 = K181_3 E := rfl
theorem l181 : L_ 181 = 4 := rfl
theorem b182_0 (E : En_) : B_ E 182 0 = K182_0 E := rfl
theorem b182_1 (E : En_) : B_ E 182 1 = K182_1 E := rfl
theorem b182_2 (E : En_) : B_ E 182 2 = K182_2 E := rfl
theorem b182_3 (E : En_) : B_ E 182 3 = K182_3 E := rfl
theorem l182 : L_ 182 = 3 := rfl
theorem b183_0 (E : En_) : B_ E 183 0 = K183_0 E := rfl
theorem b183_1 (E : En_) : B_ E 183 1 = K183_1 E := rfl
theorem b183_2 (E : En_) : B_ E 183 2 = K183_2 E := rfl
theorem b183_3 (E : En_) : B_ E 183 3 = K183_3 E := rfl
theorem b183_4 (E : En_) : B_ E 183 4 = K183_4 E := rfl
theorem b183_5 (E : En_) : B_ E 183 5 = K183_5 E := rfl
theorem b183_6 (E : En_) : B_ E 183 6 = K183_6 E := rfl
theorem l183 : L_ 183 = 4 := rfl
theorem b184_0 (E : En_) : B_ E 184 0 = K184_0 E := rfl
theorem b184_1 (E : En_) : B_ E 184 1 = K184_1 E := rfl
theorem b184_2 (E : En_) : B_ E 184 2 = K184_2 E := rfl
theorem l184 : L_ 184 = 1 := rfl
theorem b185_0 (E : En_) : B_ E 185 0 = K185_0 E := rfl
theorem b185_1 (E : En_) : B_ E 185 1 = K185_1 E := rfl
theorem l185 : L_ 185 = 3 := rfl
theorem b186_0 (E : En_) : B_ E 186 0 = K186_0 E := rfl
theorem l186 : L_ 186 = 2 := rfl
theorem b187_0 (E : En_) : B_ E 187 0 = K187_0 E := rfl
theorem l187 : L_ 187 = 4 := rfl
theorem b188_0 (E : En_) : B_ E 188 0 = K188_0 E := rfl
theorem b188_1 (E : En_) : B_ E 188 1 = K188_1 E := rfl
theorem b188_2 (E : En_) : B_ E 188 2 = K188_2 E := rfl
theorem b188_3 (E : En_) : B_ E 188 3 = K188_3 E := rfl
theorem b188_4 (E : En_) : B_ E 188 4 = K188_4 E := rfl
theorem b188_5 (E : En_) : B_ E 188 5 = K188_5 E := rfl
theorem l188 : L_ 188 = 5 := rfl
theorem b189_0 (E : En_) : B_ E 189 0 = K189_0 E := rfl
theorem b189_1 (E : En_) : B_ E 189 1 = K189_1 E := rfl
theorem l189 : L_ 189 = 4 := rfl
theorem b190_0 (E : En_) : B_ E 190 0 = K190_0 E := rfl
theorem b190_1 (E : En_) : B_ E 190 1 = K190_1 E := rfl
theorem l190 : L_ 190 = 5 := rfl
theorem b191_0 (E : En_) : B_ E 191 0 = K191_0 E := rfl
theorem l191 : L_ 191 = 1 := rfl
theorem b192_0 (E : En_) : B_ E 192 0 = K192_0 E := rfl
theorem b192_1 (E : En_) : B_ E 192 1 = K192_1 E := rfl
theorem b192_2 (E : En_) : B_ E 192 2 = K192_2 E := rfl
theorem b192_3 (E : En_) : B_ E 192 3 = K192_3 E := rfl
theorem b192_4 (E : En_) : B_ E 192 4 = K192_4 E := rfl
theorem l192 : L_ 192 = 4 := rfl
theorem b193_0 (E : En_) : B_ E 193 0 = K193_0 E := rfl
theorem l193 : L_ 193 = 4 := rfl
theorem b194_0 (E : En_) : B_ E 194 0 = K194_0 E := rfl
theorem b194_1 (E : En_) : B_ E 194 1 = K194_1 E := rfl
theorem b194_2 (E : En_) : B_ E 194 2 = K194_2 E := rfl
theorem b194_3 (E : En_) : B_ E 194 3 = K194_3 E := rfl
theorem b194_4 (E : En_) : B_ E 194 4 = K194_4 E := rfl
theorem b194_5 (E : En_) : B_ E 194 5 = K194_5 E := rfl
theorem b194_6 (E : En_) : B_ E 194 6 = K194_6 E := rfl
theorem b194_7 (E : En_) : B_ E 194 7 = K194_7 E := rfl
theorem l194 : L_ 194 = 4 := rfl
theorem b195_0 (E : En_) : B_ E 195 0 = K195_0 E := rfl
theorem b195_1 (E : En_) : B_ E 195 1 = K195_1 E := rfl
theorem b195_2 (E : En_) : B_ E 195 2 = K195_2 E := rfl
theorem b195_3 (E : En_) : B_ E 195 3 = K195_3 E := rfl
theorem b195_4 (E : En_) : B_ E 195 4 = K195_4 E := rfl
theorem b195_5 (E : En_) : B_ E 195 5 = K195_5 E := rfl
theorem b195_6 (E : En_) : B_ E 195 6 = K195_6 E := rfl
theorem l195 : L_ 195 = 5 := rfl
theorem b196_0 (E : En_) : B_ E 196 0 = K196_0 E := rfl
theorem b196_1 (E : En_) : B_ E 196 1 = K196_1 E := rfl
theorem b196_2 (E : En_) : B_ E 196 2 = K196_2 E := rfl
theorem b196_3 (E : En_) : B_ E 196 3 = K196_3 E := rfl
theorem b196_4 (E : En_) : B_ E 196 4 = K196_4 E := rfl
theorem b196_5 (E : En_) : B_ E 196 5 = K196_5 E := rfl
theorem b196_6 (E : En_) : B_ E 196 6 = K196_6 E := rfl
theorem b196_7 (E : En_) : B_ E 196 7 = K196_7 E := rfl
theorem l196 : L_ 196 = 7 := rfl
theorem b197_0 (E : En_) : B_ E 197 0 = K197_0 E := rfl
theorem l197 : L_ 197 = 1 := rfl
theorem b198_0 (E : En_) : B_ E 198 0 = K198_0 E := rfl
theorem b198_1 (E : En_) : B_ E 198 1 = K198_1 E := rfl
theorem l198 : L_ 198 = 3 := rfl
theorem b199_0 (E : En_) : B_ E 199 0 = K199_0 E := rfl
theorem b199_1 (E : En_) : B_ E 199 1 = K199_1 E := rfl
theorem b199_2 (E : En_) : B_ E 199 2 = K199_2 E := rfl
theorem b199_3 (E : En_) : B_ E 199 3 = K199_3 E := rfl
theorem b199_4 (E : En_) : B_ E 199 4 = K199_4 E := rfl
theorem b199_5 (E : En_) : B_ E 199 5 = K199_5 E := rfl
theorem b199_6 (E : En_) : B_ E 199 6 = K199_6 E := rfl
theorem l199 : L_ 199 = 3 := rfl
theorem b200_0 (E : En_) : B_ E 200 0 = K200_0 E := rfl
theorem b200_1 (E : En_) : B_ E 200 1 = K200_1 E := rfl
theorem b200_2 (E : En_) : B_ E 200 2 = K200_2 E := rfl
theorem b200_3 (E : En_) : B_ E 200 3 = K200_3 E := rfl
theorem b200_4 (E : En_) : B_ E 200 4 = K200_4 E := rfl
theorem b200_5 (E : En_) : B_ E 200 5 = K200_5 E := rfl
theorem b200_6 (E : En_) : B_ E 200 6 = K200_6 E := rfl
theorem l200 : L_ 200 = 6 := rfl
theorem b201_0 (E : En_) : B_ E 201 0 = K201_0 E := rfl
theorem l201 : L_ 201 = 1 := rfl
theorem b202_0 (E : En_) : B_ E 202 0 = K202_0 E := rfl
theorem l202 : L_ 202 = 1 := rfl
theorem b203_0 (E : En_) : B_ E 203 0 = K203_0 E := rfl
theorem l203 : L_ 203 = 7 := rfl
theorem b204_0 (E : En_) : B_ E 204 0 = K204_0 E := rfl
theorem b204_1 (E : En_) : B_ E 204 1 = K204_1 E := rfl
theorem b204_2 (E : En_) : B_ E 204 2 = K204_2 E := rfl
theorem b204_3 (E : En_) : B_ E 204 3 = K204_3 E := rfl
theorem b204_4 (E : En_) : B_ E 204 4 = K204_4 E := rfl
theorem b204_5 (E : En_) : B_ E 204 5 = K204_5 E := rfl
theorem l204 : L_ 204 = 3 := rfl
theorem b205_0 (E : En_) : B_ E 205 0 = K205_0 E := rfl
theorem b205_1 (E : En_) : B_ E 205 1 = K205_1 E := rfl
theorem b205_2 (E : En_) : B_ E 205 2 = K205_2 E := rfl
theorem b205_3 (E : En_) : B_ E 205 3 = K205_3 E := rfl
theorem b205_4 (E : En_) : B_ E 205 4 = K205_4 E := rfl
theorem b205_5 (E : En_) : B_ E 205 5 = K205_5 E := rfl
theorem l205 : L_ 205 = 4 := rfl
theorem b206_0 (E : En_) : B_ E 206 0 = K206_0 E := rfl
theorem b206_1 (E : En_) : B_ E 206 1 = K206_1 E := rfl
theorem b206_2 (E : En_) : B_ E 206 2 = K206_2 E := rfl
theorem l206 : L_ 206 = 3 := rfl
theorem b207_0 (E : En_) : B_ E 207 0 = K207_0 E := rfl
theorem b207_1 (E : En_) : B_ E 207 1 = K207_1 E := rfl
theorem b207_2 (E : En_) : B_ E 207 2 = K207_2 E := rfl
theorem b207_3 (E : En_) : B_ E 207 3 = K207_3 E := rfl
theorem b207_4 (E : En_) : B_ E 207 4 = K207_4 E := rfl
theorem l207 : L_ 207 = 4 := rfl
theorem b208_0 (E : En_) : B_ E 208 0 = K208_0 E := rfl
theorem b208_1 (E : En_) : B_ E 208 1 = K208_1 E := rfl
theorem b208_2 (E : En_) : B_ E 208 2 = K208_2 E := rfl
theorem l208 : L_ 208 = 2 := rfl
theorem b209_0 (E : En_) : B_ E 209 0 = K209_0 E := rfl
theorem l209 : L_ 209 = 1 := rfl
theorem b210_0 (E : En_) : B_ E 210 0 = K210_0 E := rfl
theorem b210_1 (E : En_) : B_ E 210 1 = K210_1 E := rfl
theorem l210 : L_ 210 = 2 := rfl
theorem b211_0 (E : En_) : B_ E 211 0 = K211_0 E := rfl
theorem b211_1 (E : En_) : B_ E 211 1 = K211_1 E := rfl
theorem l211 : L_ 211 = 3 := rfl
theorem b212_0 (E : En_) : B_ E 212 0 = K212_0 E := rfl
theorem l212 : L_ 212 = 1 := rfl
theorem b213_0 (E : En_) : B_ E 213 0 = K213_0 E := rfl
theorem b213_1 (E : En_) : B_ E 213 1 = K213_1 E := rfl
theorem l213 : L_ 213 = 4 := rfl
theorem b214_0 (E : En_) : B_ E 214 0 = K214_0 E := rfl
theorem b214_1 (E : En_) : B_ E 214 1 = K214_1 E := rfl
theorem b214_2 (E : En_) : B_ E 214 2 = K214_2 E := rfl
theorem b214_3 (E : En_) : B_ E 214 3 = K214_3 E := rfl
theorem b214_4 (E : En_) : B_ E 214 4 = K214_4 E := rfl
theorem b214_5 (E : En_) : B_ E 214 5 = K214_5 E := rfl
theorem l214 : L_ 214 = 2 := rfl
theorem b215_0 (E : En_) : B_ E 215 0 = K215_0 E := rfl
theorem b215_1 (E : En_) : B_ E 215 1 = K215_1 E := rfl
theorem b215_2 (E : En_) : B_ E 215 2 = K215_2 E := rfl
theorem b215_3 (E : En_) : B_ E 215 3 = K215_3 E := rfl
theorem b215_4 (E : En_) : B_ E 215 4 = K215_4 E := rfl
theorem b215_5 (E : En_) : B_ E 215 5 = K215_5 E := rfl
theorem b215_6 (E : En_) : B_ E 215 6 = K215_6 E := rfl
theorem b215_7 (E : En_) : B_ E 215 7 = K215_7 E := rfl
theorem b215_8 (E : En_) : B_ E 215 8 = K215_8 E := rfl
theorem l215 : L_ 215 = 8 := rfl
theorem b216_0 (E : En_) : B_ E 216 0 = K216_0 E := rfl
theorem b216_1 (E : En_) : B_ E 216 1 = K216_1 E := rfl
theorem l216 : L_ 216 = 2 := rfl
theorem b217_0 (E : En_) : B_ E 217 0 = K217_0 E := rfl
theorem b217_1 (E : En_) : B_ E 217 1 = K217_1 E := rfl
theorem b217_2 (E : En_) : B_ E 217 2 = K217_2 E := rfl
theorem l217 : L_ 217 = 2 := rfl
theorem b218_0 (E : En_) : B_ E 218 0 = K218_0 E := rfl
theorem b218_1 (E : En_) : B_ E 218 1 = K218_1 E := rfl
theorem b218_2 (E : En_) : B_ E 218 2 = K218_2 E := rfl
theorem b218_3 (E : En_) : B_ E 218 3 = K218_3 E := rfl
theorem b218_4 (E : En_) : B_ E 218 4 = K218_4 E := rfl
theorem l218 : L_ 218 = 6 := rfl
theorem b219_0 (E : En_) : B_ E 219 0 = K219_0 E := rfl
theorem b219_1 (E : En_) : B_ E 219 1 = K219_1 E := rfl
theorem b219_2 (E : En_) : B_ E 219 2 = K219_2 E := rfl
theorem b219_3 (E : En_) : B_ E 219 3 = K219_3 E := rfl
theorem l219 : L_ 219 = 3 := rfl
theorem b220_0 (E : En_) : B_ E 220 0 = K220_0 E := rfl
theorem b220_1 (E : En_) : B_ E 220 1 = K220_1 E := rfl
theorem b220_2 (E : En_) : B_ E 220 2 = K220_2 E := rfl
theorem b220_3 (E : En_) : B_ E 220 3 = K220_3 E := rfl
theorem l220 : L_ 220 = 1 := rfl
theorem b221_0 (E : En_) : B_ E 221 0 = K221_0 E := rfl
theorem b221_1 (E : En_) : B_ E 221 1 = K221_1 E := rfl
theorem b221_2 (E : En_) : B_ E 221 2 = K221_2 E := rfl
theorem b221_3 (E : En_) : B_ E 221 3 = K221_3 E := rfl
theorem b221_4 (E : En_) : B_ E 221 4 = K221_4 E := rfl
theorem b221_5 (E : En_) : B_ E 221 5 = K221_5 E := rfl
theorem b221_6 (E : En_) : B_ E 221 6 = K221_6 E := rfl
theorem b221_7 (E : En_) : B_ E 221 7 = K221_7 E := rfl
theorem b221_8 (E : En_) : B_ E 221 8 = K221_8 E := rfl
theorem b221_9 (E : En_) : B_ E 221 9 = K221_9 E := rfl
theorem b221_10 (E : En_) : B_ E 221 10 = K221_10 E := rfl
theorem b221_11 (E : En_) : B_ E 221 11 = K221_11 E := rfl
theorem b221_12 (E : En_) : B_ E 221 12 = K221_12 E := rfl
theorem b221_13 (E : En_) : B_ E 221 13 = K221_13 E := rfl
theorem b221_14 (E : En_) : B_ E 221 14 = K221_14 E := rfl
theorem b221_15 (E : En_) : B_ E 221 15 = K221_15 E := rfl
theorem b221_16 (E : En_) : B_ E 221 16 = K221_16 E := rfl
theorem l221 : L_ 221 = 2 := rfl
theorem b222_0 (E : En_) : B_ E 222 0 = K222_0 E := rfl
theorem b222_1 (E : En_) : B_ E 222 1 = K222_1 E := rfl
theorem b222_2 (E : En_) : B_ E 222 2 = K222_2 E := rfl
theorem l222 : L_ 222 = 2 := rfl
theorem b223_0 (E : En_) : B_ E 223 0 = K223_0 E := rfl
theorem l223 : L_ 223 = 2 := rfl
theorem b224_0 (E : En_) : B_ E 224 0 = K224_0 E := rfl
theorem b224_1 (E : En_) : B_ E 224 1 = K224_1 E := rfl
theorem b224_2 (E : En_) : B_ E 224 2 = K224_2 E := rfl
theorem b224_3 (E : En_) : B_ E 224 3 = K224_3 E := rfl
theorem b224_4 (E : En_) : B_ E 224 4 = K224_4 E := rfl
theorem b224_5 (E : En_) : B_ E 224 5 = K224_5 E := rfl
theorem b224_6 (E : En_) : B_ E 224 6 = K224_6 E := rfl
theorem l224 : L_ 224 = 4 := rfl
theorem b225_0 (E : En_) : B_ E 225 0 = K225_0 E := rfl
theorem b225_1 (E : En_) : B_ E 225 1 = K225_1 E := rfl
theorem b225_2 (E : En_) : B_ E 225 2 = K225_2 E := rfl
theorem l225 : L_ 225 = 1 := rfl
theorem b226_0 (E : En_) : B_ E 226 0 = K226_0 E := rfl
theorem b226_1 (E : En_) : B_ E 226 1 = K226_1 E := rfl
theorem b226_2 (E : En_) : B_ E 226 2 = K226_2 E := rfl
theorem b226_3 (E : En_) : B_ E 226 3 = K226_3 E := rfl
theorem b226_4 (E : En_) : B_ E 226 4 = K226_4 E := rfl
theorem b226_5 (E : En_) : B_ E 226 5 = K226_5 E := rfl
theorem b226_6 (E : En_) : B_ E 226 6 = K226_6 E := rfl
theorem l226 : L_ 226 = 1 := rfl
theorem b227_0 (E : En_) : B_ E 227 0 = K227_0 E := rfl
theorem b227_1 (E : En_) : B_ E 227 1 = K227_1 E := rfl
theorem b227_2 (E : En_) : B_ E 227 2 = K227_2 E := rfl
theorem b227_3 (E : En_) : B_ E 227 3 = K227_3 E := rfl
theorem b227_4 (E : En_) : B_ E 227 4 = K227_4 E := rfl
theorem b227_5 (E : En_) : B_ E 227 5 = K227_5 E := rfl
theorem b227_6 (E : En_) : B_ E 227 6 = K227_6 E := rfl
theorem b227_7 (E : En_) : B_ E 227 7 = K227_7 E := rfl
theorem b227_8 (E : En_) : B_ E 227 8 = K227_8 E := rfl
theorem b227_9 (E : En_) : B_ E 227 9 = K227_9 E := rfl
theorem b227_10 (E : En_) : B_ E 227 10 = K227_10 E := rfl
theorem b227_11 (E : En_) : B_ E 227 11 = K227_11 E := rfl
theorem b227_12 (E : En_) : B_ E 227 12 = K227_12 E := rfl
theorem b227_13 (E : En_) : B_ E 227 13 = K227_13 E := rfl
theorem l227 : L_ 227 = 3 := rfl
theorem b228_0 (E : En_) : B_ E 228 0 = K228_0 E := rfl
theorem b228_1 (E : En_) : B_ E 228 1 = K228_1 E := rfl
theorem b228_2 (E : En_) : B_ E 228 2 = K228_2 E := rfl
theorem l228 : L_ 228 = 3 := rfl
theorem b229_0 (E : En_) : B_ E 229 0 = K229_0 E := rfl
theorem b229_1 (E : En_) : B_ E 229 1 = K229_1 E := rfl
theorem l229 : L_ 229 = 1 := rfl
theorem b230_0 (E : En_) : B_ E 230 0 = K230_0 E := rfl
theorem b230_1 (E : En_) : B_ E 230 1 = K230_1 E := rfl
theorem b230_2 (E : En_) : B_ E 230 2 = K230_2 E := rfl
theorem b230_3 (E : En_) : B_ E 230 3 = K230_3 E := rfl
theorem b230_4 (E : En_) : B_ E 230 4 = K230_4 E := rfl
theorem b230_5 (E : En_) : B_ E 230 5 = K230_5 E := rfl
theorem b230_6 (E : En_) : B_ E 230 6 = K230_6 E := rfl
theorem b230_7 (E : En_) : B_ E 230 7 = K230_7 E := rfl
theorem b230_8 (E : En_) : B_ E 230 8 = K230_8 E := rfl
theorem b230_9 (E : En_) : B_ E 230 9 = K230_9 E := rfl
theorem l230 : L_ 230 = 5 := rfl
theorem b231_0 (E : En_) : B_ E 231 0 = K231_0 E := rfl
theorem l231 : L_ 231 = 4 := rfl
theorem b232_0 (E : En_) : B_ E 232 0 = K232_0 E := rfl
theorem b232_1 (E : En_) : B_ E 232 1 = K232_1 E := rfl
theorem b232_2 (E : En_) : B_ E 232 2 = K232_2 E := rfl
theorem b232_3 (E : En_) : B_ E 232 3 = K232_3 E := rfl
theorem l232 : L_ 232 = 3 := rfl
theorem b233_0 (E : En_) : B_ E 233 0 = K233_0 E := rfl
theorem b233_1 (E : En_) : B_ E 233 1 = K233_1 E := rfl
theorem b233_2 (E : En_) : B_ E 233 2 = K233_2 E := rfl
theorem l233 : L_ 233 = 2 := rfl
theorem b234_0 (E : En_) : B_ E 234 0 = K234_0 E := rfl
theorem b234_1 (E : En_) : B_ E 234 1 = K234_1 E := rfl
theorem b234_2 (E : En_) : B_ E 234 2 = K234_2 E := rfl
theorem b234_3 (E : En_) : B_ E 234 3 = K234_3 E := rfl
theorem b234_4 (E : En_) : B_ E 234 4 = K234_4 E := rfl
theorem b234_5 (E : En_) : B_ E 234 5 = K234_5 E := rfl
theorem b234_6 (E : En_) : B_ E 234 6 = K234_6 E := rfl
theorem b234_7 (E : En_) : B_ E 234 7 = K234_7 E := rfl
theorem b234_8 (E : En_) : B_ E 234 8 = K234_8 E := rfl
theorem b234_9 (E : En_) : B_ E 234 9 = K234_9 E := rfl
theorem b234_10 (E : En_) : B_ E 234 10 = K234_10 E := rfl
theorem b234_11 (E : En_) : B_ E 234 11 = K234_11 E := rfl
theorem b234_12 (E : En_) : B_ E 234 12 = K234_12 E := rfl
theorem b234_13 (E : En_) : B_ E 234 13 = K234_13 E := rfl
theorem b234_14 (E : En_) : B_ E 234 14 = K234_14 E := rfl
theorem b234_15 (E : En_) : B_ E 234 15 = K234_15 E := rfl
theorem b234_16 (E : En_) : B_ E 234 16 = K234_16 E := rfl
theorem l234 : L_ 234 = 6 := rfl
theorem b235_0 (E : En_) : B_ E 235 0 = K235_0 E := rfl
theorem b235_1 (E : En_) : B_ E 235 1 = K235_1 E := rfl
theorem b235_2 (E : En_) : B_ E 235 2 = K235_2 E := rfl
theorem b235_3 (E : En_) : B_ E 235 3 = K235_3 E := rfl
theorem b235_4 (E : En_) : B_ E 235 4 = K235_4 E := rfl
theorem l235 : L_ 235 = 1 := rfl
theorem b236_0 (E : En_) : B_ E 236 0 = K236_0 E := rfl
theorem b236_1 (E : En_) : B_ E 236 1 = K236_1 E := rfl
theorem b236_2 (E : En_) : B_ E 236 2 = K236_2 E := rfl
theorem b236_3 (E : En_) : B_ E 236 3 = K236_3 E := rfl
theorem l236 : L_ 236 = 3 := rfl
theorem b237_0 (E : En_) : B_ E 237 0 = K237_0 E := rfl
theorem b237_1 (E : En_) : B_ E 237 1 = K237_1 E := rfl
theorem b237_2 (E : En_) : B_ E 237 2 = K237_2 E := rfl
theorem b237_3 (E : En_) : B_ E 237 3 = K237_3 E := rfl
theorem b237_4 (E : En_) : B_ E 237 4 = K237_4 E := rfl
theorem b237_5 (E : En_) : B_ E 237 5 = K237_5 E := rfl
theorem b237_6 (E : En_) : B_ E 237 6 = K237_6 E := rfl
theorem b237_7 (E : En_) : B_ E 237 7 = K237_7 E := rfl
theorem b237_8 (E : En_) : B_ E 237 8 = K237_8 E := rfl
theorem b237_9 (E : En_) : B_ E 237 9 = K237_9 E := rfl
theorem b237_10 (E : En_) : B_ E 237 10 = K237_10 E := rfl
theorem b237_11 (E : En_) : B_ E 237 11 = K237_11 E := rfl
theorem l237 : L_ 237 = 8 := rfl
theorem b238_0 (E : En_) : B_ E 238 0 = K238_0 E := rfl
theorem b238_1 (E : En_) : B_ E 238 1 = K238_1 E := rfl
theorem b238_2 (E : En_) : B_ E 238 2 = K238_2 E := rfl
theorem b238_3 (E : En_) : B_ E 238 3 = K238_3 E := rfl
theorem b238_4 (E : En_) : B_ E 238 4 = K238_4 E := rfl
theorem b238_5 (E : En_) : B_ E 238 5 = K238_5 E := rfl
theorem b238_6 (E : En_) : B_ E 238 6 = K238_6 E := rfl
theorem b238_7 (E : En_) : B_ E 238 7 = K238_7 E := rfl
theorem b238_8 (E : En_) : B_ E 238 8 = K238_8 E := rfl
theorem l238 : L_ 238 = 4 := rfl
theorem b239_0 (E : En_) : B_ E 239 0 = K239_0 E := rfl
theorem l239 : L_ 239 = 1 := rfl
theorem b240_0 (E : En_) : B_ E 240 0 = K240_0 E := rfl
theorem l240 : L_ 240 = 1 := rfl
theorem b241_0 (E : En_) : B_ E 241 0 = K241_0 E := rfl
theorem b241_1 (E : En_) : B_ E 241 1 = K241_1 E := rfl
theorem b241_2 (E : En_) : B_ E 241 2 = K241_2 E := rfl
theorem b241_3 (E : En_) : B_ E 241 3 = K241_3 E := rfl
theorem b241_4 (E : En_) : B_ E 241 4 = K241_4 E := rfl
theorem b241_5 (E : En_) : B_ E 241 5 = K241_5 E := rfl
theorem b241_6 (E : En_) : B_ E 241 6 = K241_6 E := rfl
theorem l241 : L_ 241 = 2 := rfl
theorem b242_0 (E : En_) : B_ E 242 0 = K242_0 E := rfl
theorem l242 : L_ 242 = 2 := rfl
theorem b243_0 (E : En_) : B_ E 243 0 = K243_0 E := rfl
theorem b243_1 (E : En_) : B_ E 243 1 = K243_1 E := rfl
theorem l243 : L_ 243 = 2 := rfl
theorem b244_0 (E : En_) : B_ E 244 0 = K244_0 E := rfl
theorem b244_1 (E : En_) : B_ E 244 1 = K244_1 E := rfl
theorem b244_2 (E : En_) : B_ E 244 2 = K244_2 E := rfl
theorem b244_3 (E : En_) : B_ E 244 3 = K244_3 E := rfl
theorem b244_4 (E : En_) : B_ E 244 4 = K244_4 E := rfl
theorem l244 : L_ 244 = 3 := rfl
theorem b245_0 (E : En_) : B_ E 245 0 = K245_0 E := rfl
theorem b245_1 (E : En_) : B_ E 245 1 = K245_1 E := rfl
theorem b245_2 (E : En_) : B_ E 245 2 = K245_2 E := rfl
theorem b245_3 (E : En_) : B_ E 245 3 = K245_3 E := rfl
theorem b245_4 (E : En_) : B_ E 245 4 = K245_4 E := rfl
theorem l245 : L_ 245 = 2 := rfl
theorem b246_0 (E : En_) : B_ E 246 0 = K246_0 E := rfl
theorem b246_1 (E : En_) : B_ E 246 1 = K246_1 E := rfl
theorem b246_2 (E : En_) : B_ E 246 2 = K246_2 E := rfl
theorem l246 : L_ 246 = 3 := rfl
theorem b247_0 (E : En_) : B_ E 247 0 = K247_0 E := rfl
theorem b247_1 (E : En_) : B_ E 247 1 = K247_1 E := rfl
theorem b247_2 (E : En_) : B_ E 247 2 = K247_2 E := rfl
theorem l247 : L_ 247 = 2 := rfl
theorem b248_0 (E : En_) : B_ E 248 0 = K248_0 E := rfl
theorem l248 : L_ 248 = 3 := rfl
theorem b249_0 (E : En_) : B_ E 249 0 = K249_0 E := rfl
theorem l249 : L_ 249 = 2 := rfl
theorem b250_0 (E : En_) : B_ E 250 0 = K250_0 E := rfl
theorem b250_1 (E : En_) : B_ E 250 1 = K250_1 E := rfl
theorem b250_2 (E : En_) : B_ E 250 2 = K250_2 E := rfl
theorem l250 : L_ 250 = 1 := rfl
theorem b251_0 (E : En_) : B_ E 251 0 = K251_0 E := rfl
theorem l251 : L_ 251 = 2 := rfl
theorem b252_0 (E : En_) : B_ E 252 0 = K252_0 E := rfl
theorem l252 : L_ 252 = 6 := rfl
theorem b253_0 (E : En_) : B_ E 253 0 = K253_0 E := rfl
theorem l253 : L_ 253 = 1 := rfl
theorem b254_0 (E : En_) : B_ E 254 0 = K254_0 E := rfl
theorem b254_1 (E : En_) : B_ E 254 1 = K254_1 E := rfl
theorem b254_2 (E : En_) : B_ E 254 2 = K254_2 E := rfl
theorem b254_3 (E : En_) : B_ E 254 3 = K254_3 E := rfl
theorem b254_4 (E : En_) : B_ E 254 4 = K254_4 E := rfl
theorem b254_5 (E : En_) : B_ E 254 5 = K254_5 E := rfl
theorem b254_6 (E : En_) : B_ E 254 6 = K254_6 E := rfl
theorem l254 : L_ 254 = 1 := rfl
theorem b255_0 (E : En_) : B_ E 255 0 = K255_0 E := rfl
theorem b255_1 (E : En_) : B_ E 255 1 = K255_1 E := rfl
theorem b255_2 (E : En_) : B_ E 255 2 = K255_2 E := rfl
theorem l255 : L_ 255 = 1 := rfl
theorem b256_0 (E : En_) : B_ E 256 0 = K256_0 E := rfl
theorem l256 : L_ 256 = 2 := rfl
theorem b257_0 (E : En_) : B_ E 257 0 = K257_0 E := rfl
theorem b257_1 (E : En_) : B_ E 257 1 = K257_1 E := rfl
theorem b257_2 (E : En_) : B_ E 257 2 = K257_2 E := rfl
theorem b257_3 (E : En_) : B_ E 257 3 = K257_3 E := rfl
theorem l257 : L_ 257 = 2 := rfl
theorem b258_0 (E : En_) : B_ E 258 0 = K258_0 E := rfl
theorem l258 : L_ 258 = 4 := rfl
theorem b259_0 (E : En_) : B_ E 259 0 = K259_0 E := rfl
theorem b259_1 (E : En_) : B_ E 259 1 = K259_1 E := rfl
theorem b259_2 (E : En_) : B_ E 259 2 = K259_2 E := rfl
theorem l259 : L_ 259 = 2 := rfl
theorem b260_0 (E : En_) : B_ E 260 0 = K260_0 E := rfl
theorem b260_1 (E : En_) : B_ E 260 1 = K260_1 E := rfl
theorem b260_2 (E : En_) : B_ E 260 2 = K260_2 E := rfl
theorem l260 : L_ 260 = 2 := rfl
theorem b261_0 (E : En_) : B_ E 261 0 = K261_0 E := rfl
theorem b261_1 (E : En_) : B_ E 261 1 = K261_1 E := rfl
theorem b261_2 (E : En_) : B_ E 261 2 = K261_2 E := rfl
theorem b261_3 (E : En_) : B_ E 261 3 = K261_3 E := rfl
theorem l261 : L_ 261 = 3 := rfl
theorem b262_0 (E : En_) : B_ E 262 0 = K262_0 E := rfl
theorem l262 : L_ 262 = 3 := rfl
theorem b263_0 (E : En_) : B_ E 263 0 = K263_0 E := rfl
theorem l263 : L_ 263 = 2 := rfl
theorem b264_0 (E : En_) : B_ E 264 0 = K264_0 E := rfl
theorem b264_1 (E : En_) : B_ E 264 1 = K264_1 E := rfl
theorem b264_2 (E : En_) : B_ E 264 2 = K264_2 E := rfl
theorem l264 : L_ 264 = 3 := rfl
theorem b265_0 (E : En_) : B_ E 265 0 = K265_0 E := rfl
theorem b265_1 (E : En_) : B_ E 265 1 = K265_1 E := rfl
theorem b265_2 (E : En_) : B_ E 265 2 = K265_2 E := rfl
theorem l265 : L_ 265 = 1 := rfl
theorem b266_0 (E : En_) : B_ E 266 0 = K266_0 E := rfl
theorem b266_1 (E : En_) : B_ E 266 1 = K266_1 E := rfl
theorem b266_2 (E : En_) : B_ E 266 2 = K266_2 E := rfl
theorem l266 : L_ 266 = 1 := rfl
theorem b267_0 (E : En_) : B_ E 267 0 = K267_0 E := rfl
theorem l267 : L_ 267 = 1 := rfl
theorem b268_0 (E : En_) : B_ E 268 0 = K268_0 E := rfl
theorem b268_1 (E : En_) : B_ E 268 1 = K268_1 E := rfl
theorem l268 : L_ 268 = 2 := rfl
theorem b269_0 (E : En_) : B_ E 269 0 = K269_0 E := rfl
theorem b269_1 (E : En_) : B_ E 269 1 = K269_1 E := rfl
theorem b269_2 (E : En_) : B_ E 269 2 = K269_2 E := rfl
theorem l269 : L_ 269 = 3 := rfl
theorem b270_0 (E : En_) : B_ E 270 0 = K270_0 E := rfl
theorem l270 : L_ 270 = 2 := rfl
theorem b271_0 (E : En_) : B_ E 271 0 = K271_0 E := rfl
theorem l271 : L_ 271 = 1 := rfl
theorem b272_0 (E : En_) : B_ E 272 0 = K272_0 E := rfl
theorem b272_1 (E : En_) : B_ E 272 1 = K272_1 E := rfl
theorem b272_2 (E : En_) : B_ E 272 2 = K272_2 E := rfl
theorem b272_3 (E : En_) : B_ E 272 3 = K272_3 E := rfl
theorem l272 : L_ 272 = 3 := rfl
theorem b273_0 (E : En_) : B_ E 273 0 = K273_0 E := rfl
theorem b273_1 (E : En_) : B_ E 273 1 = K273_1 E := rfl
theorem b273_2 (E : En_) : B_ E 273 2 = K273_2 E := rfl
theorem l273 : L_ 273 = 4 := rfl
theorem b274_0 (E : En_) : B_ E 274 0 = K274_0 E := rfl
theorem b274_1 (E : En_) : B_ E 274 1 = K274_1 E := rfl
theorem b274_2 (E : En_) : B_ E 274 2 = K274_2 E := rfl
theorem l274 : L_ 274 = 4 := rfl
theorem b275_0 (E : En_) : B_ E 275 0 = K275_0 E := rfl
theorem b275_1 (E : En_) : B_ E 275 1 = K275_1 E := rfl
theorem b275_2 (E : En_) : B_ E 275 2 = K275_2 E := rfl
theorem l275 : L_ 275 = 1 := rfl
theorem b276_0 (E : En_) : B_ E 276 0 = K276_0 E := rfl
theorem b276_1 (E : En_) : B_ E 276 1 = K276_1 E := rfl
theorem b276_2 (E : En_) : B_ E 276 2 = K276_2 E := rfl
theorem b276_3 (E : En_) : B_ E 276 3 = K276_3 E := rfl
theorem b276_4 (E : En_) : B_ E 276 4 = K276_4 E := rfl
theorem b276_5 (E : En_) : B_ E 276 5 = K276_5 E := rfl
theorem l276 : L_ 276 = 5 := rfl
theorem b277_0 (E : En_) : B_ E 277 0 = K277_0 E := rfl
theorem b277_1 (E : En_) : B_ E 277 1 = K277_1 E := rfl
theorem b277_2 (E : En_) : B_ E 277 2 = K277_2 E := rfl
theorem b277_3 (E : En_) : B_ E 277 3 = K277_3 E := rfl
theorem b277_4 (E : En_) : B_ E 277 4 = K277_4 E := rfl
theorem l277 : L_ 277 = 4 := rfl
theorem b278_0 (E : En_) : B_ E 278 0 = K278_0 E := rfl
theorem l278 : L_ 278 = 3 := rfl
theorem b279_0 (E : En_) : B_ E 279 0 = K279_0 E := rfl
theorem l279 : L_ 279 = 2 := rfl
theorem b280_0 (E : En_) : B_ E 280 0 = K280_0 E := rfl
theorem b280_1 (E : En_) : B_ E 280 1 = K280_1 E := rfl
theorem b280_2 (E : En_) : B_ E 280 2 = K280_2 E := rfl
theorem b280_3 (E : En_) : B_ E 280 3 = K280_3 E := rfl
theorem b280_4 (E : En_) : B_ E 280 4 = K280_4 E := rfl
theorem b280_5 (E : En_) : B_ E 280 5 = K280_5 E := rfl
theorem b280_6 (E : En_) : B_ E 280 6 = K280_6 E := rfl
theorem l280 : L_ 280 = 8 := rfl
theorem b281_0 (E : En_) : B_ E 281 0 = K281_0 E := rfl
theorem l281 : L_ 281 = 2 := rfl
theorem b282_0 (E : En_) : B_ E 282 0 = K282_0 E := rfl
theorem l282 : L_ 282 = 4 := rfl
theorem b283_0 (E : En_) : B_ E 283 0 = K283_0 E := rfl
theorem l283 : L_ 283 = 2 := rfl
theorem b284_0 (E : En_) : B_ E 284 0 = K284_0 E := rfl
theorem b284_1 (E : En_) : B_ E 284 1 = K284_1 E := rfl
theorem b284_2 (E : En_) : B_ E 284 2 = K284_2 E := rfl
theorem b284_3 (E : En_) : B_ E 284 3 = K284_3 E := rfl
theorem l284 : L_ 284 = 3 := rfl
theorem b285_0 (E : En_) : B_ E 285 0 = K285_0 E := rfl
theorem l285 : L_ 285 = 2 := rfl
theorem b286_0 (E : En_) : B_ E 286 0 = K286_0 E := rfl
theorem b286_1 (E : En_) : B_ E 286 1 = K286_1 E := rfl
theorem b286_2 (E : En_) : B_ E 286 2 = K286_2 E := rfl
theorem l286 : L_ 286 = 4 := rfl
theorem b287_0 (E : En_) : B_ E 287 0 = K287_0 E := rfl
theorem b287_1 (E : En_) : B_ E 287 1 = K287_1 E := rfl
theorem b287_2 (E : En_) : B_ E 287 2 = K287_2 E := rfl
theorem b287_3 (E : En_) : B_ E 287 3 = K287_3 E := rfl
theorem b287_4 (E : En_) : B_ E 287 4 = K287_4 E := rfl
theorem l287 : L_ 287 = 4 := rfl
theorem b288_0 (E : En_) : B_ E 288 0 = K288_0 E := rfl
theorem b288_1 (E : En_) : B_ E 288 1 = K288_1 E := rfl
theorem b288_2 (E : En_) : B_ E 288 2 = K288_2 E := rfl
theorem b288_3 (E : En_) : B_ E 288 3 = K288_3 E := rfl
theorem l288 : L_ 288 = 4 := rfl
theorem b289_0 (E : En_) : B_ E 289 0 = K289_0 E := rfl
theorem b289_1 (E : En_) : B_ E 289 1 = K289_1 E := rfl
theorem b289_2 (E : En_) : B_ E 289 2 = K289_2 E := rfl
theorem b289_3 (E : En_) : B_ E 289 3 = K289_3 E := rfl
theorem b289_4 (E : En_) : B_ E 289 4 = K289_4 E := rfl
theorem b289_5 (E : En_) : B_ E 289 5 = K289_5 E := rfl
theorem b289_6 (E : En_) : B_ E 289 6 = K289_6 E := rfl
theorem b289_7 (E : En_) : B_ E 289 7 = K289_7 E := rfl
theorem b289_8 (E : En_) : B_ E 289 8 = K289_8 E := rfl
theorem b289_9 (E : En_) : B_ E 289 9 = K289_9 E := rfl
theorem l289 : L_ 289 = 5 := rfl
theorem b290_0 (E : En_) : B_ E 290 0 = K290_0 E := rfl
theorem l290 : L_ 290 = 1 := rfl
theorem b291_0 (E : En_) : B_ E 291 0 = K291_0 E := rfl
theorem b291_1 (E : En_) : B_ E 291 1 = K291_1 E := rfl
theorem b291_2 (E : En_) : B_ E 291 2 = K291_2 E := rfl
theorem b291_3 (E : En_) : B_ E 291 3 = K291_3 E := rfl
theorem b291_4 (E : En_) : B_ E 291 4 = K291_4 E := rfl
theorem b291_5 (E : En_) : B_ E 291 5 = K291_5 E := rfl
theorem b291_6 (E : En_) : B_ E 291 6 = K291_6 E := rfl
theorem b291_7 (E : En_) : B_ E 291 7 = K291_7 E := rfl
theorem b291_8 (E : En_) : B_ E 291 8 = K291_8 E := rfl
theorem b291_9 (E : En_) : B_ E 291 9 = K291_9 E := rfl
theorem b291_10 (E : En_) : B_ E 291 10 = K291_10 E := rfl
theorem b291_11 (E : En_) : B_ E 291 11 = K291_11 E := rfl
theorem b291_12 (E : En_) : B_ E 291 12 = K291_12 E := rfl
theorem b291_13 (E : En_) : B_ E 291 13 = K291_13 E := rfl
theorem l291 : L_ 291 = 7 := rfl
theorem b292_0 (E : En_) : B_ E 292 0 = K292_0 E := rfl
theorem l292 : L_ 292 = 2 := rfl
theorem b293_0 (E : En_) : B_ E 293 0 = K293_0 E := rfl
theorem b293_1 (E : En_) : B_ E 293 1 = K293_1 E := rfl
theorem b293_2 (E : En_) : B_ E 293 2 = K293_2 E := rfl
theorem b293_3 (E : En_) : B_ E 293 3 = K293_3 E := rfl
theorem b293_4 (E : En_) : B_ E 293 4 = K293_4 E := rfl
theorem b293_5 (E : En_) : B_ E 293 5 = K293_5 E := rfl
theorem b293_6 (E : En_) : B_ E 293 6 = K293_6 E := rfl
theorem b293_7 (E : En_) : B_ E 293 7 = K293_7 E := rfl
theorem b293_8 (E : En_) : B_ E 293 8 = K293_8 E := rfl
theorem b293_9 (E : En_) : B_ E 293 9 = K293_9 E := rfl
theorem b293_10 (E : En_) : B_ E 293 10 = K293_10 E := rfl
theorem l293 : L_ 293 = 3 := rfl
theorem b294_0 (E : En_) : B_ E 294 0 = K294_0 E := rfl
theorem b294_1 (E : En_) : B_ E 294 1 = K294_1 E := rfl
theorem b294_2 (E : En_) : B_ E 294 2 = K294_2 E := rfl
theorem l294 : L_ 294 = 3 := rfl
theorem b295_0 (E : En_) : B_ E 295 0 = K295_0 E := rfl
theorem b295_1 (E : En_) : B_ E 295 1 = K295_1 E := rfl
theorem b295_2 (E : En_) : B_ E 295 2 = K295_2 E := rfl
theorem l295 : L_ 295 = 6 := rfl
theorem b296_0 (E : En_) : B_ E 296 0 = K296_0 E := rfl
theorem b296_1 (E : En_) : B_ E 296 1 = K296_1 E := rfl
theorem b296_2 (E : En_) : B_ E 296 2 = K296_2 E := rfl
theorem b296_3 (E : En_) : B_ E 296 3 = K296_3 E := rfl
theorem b296_4 (E : En_) : B_ E 296 4 = K296_4 E := rfl
theorem b296_5 (E : En_) : B_ E 296 5 = K296_5 E := rfl
theorem l296 : L_ 296 = 6 := rfl
theorem b297_0 (E : En_) : B_ E 297 0 = K297_0 E := rfl
theorem b297_1 (E : En_) : B_ E 297 1 = K297_1 E := rfl
theorem b297_2 (E : En_) : B_ E 297 2 = K297_2 E := rfl
theorem l297 : L_ 297 = 3 := rfl
theorem b298_0 (E : En_) : B_ E 298 0 = K298_0 E := rfl
theorem b298_1 (E : En_) : B_ E 298 1 = K298_1 E := rfl
theorem b298_2 (E : En_) : B_ E 298 2 = K298_2 E := rfl
theorem b298_3 (E : En_) : B_ E 298 3 = K298_3 E := rfl
theorem b298_4 (E : En_) : B_ E 298 4 = K298_4 E := rfl
theorem l298 : L_ 298 = 4 := rfl
theorem b299_0 (E : En_) : B_ E 299 0 = K299_0 E := rfl
theorem b299_1 (E : En_) : B_ E 299 1 = K299_1 E := rfl
theorem b299_2 (E : En_) : B_ E 299 2 = K299_2 E := rfl
theorem l299 : L_ 299 = 4 := rfl
theorem b300_0 (E : En_) : B_ E 300 0 = K300_0 E := rfl
theorem b300_1 (E : En_) : B_ E 300 1 = K300_1 E := rfl
theorem b300_2 (E : En_) : B_ E 300 2 = K300_2 E := rfl
theorem l300 : L_ 300 = 3 := rfl
theorem b301_0 (E : En_) : B_ E 301 0 = K301_0 E := rfl
theorem b301_1 (E : En_) : B_ E 301 1 = K301_1 E := rfl
theorem b301_2 (E : En_) : B_ E 301 2 = K301_2 E := rfl
theorem b301_3 (E : En_) : B_ E 301 3 = K301_3 E := rfl
theorem b301_4 (E : En_) : B_ E 301 4 = K301_4 E := rfl
theorem l301 : L_ 301 = 3 := rfl
theorem b302_0 (E : En_) : B_ E 302 0 = K302_0 E := rfl
theorem b302_1 (E : En_) : B_ E 302 1 = K302_1 E := rfl
theorem b302_2 (E : En_) : B_ E 302 2 = K302_2 E := rfl
theorem b302_3 (E : En_) : B_ E 302 3 = K302_3 E := rfl
theorem l302 : L_ 302 = 8 := rfl
theorem b303_0 (E : En_) : B_ E 303 0 = K303_0 E := rfl
theorem b303_1 (E : En_) : B_ E 303 1 = K303_1 E := rfl
theorem b303_2 (E : En_) : B_ E 303 2 = K303_2 E := rfl
theorem b303_3 (E : En_) : B_ E 303 3 = K303_3 E := rfl
theorem b303_4 (E : En_) : B_ E 303 4 = K303_4 E := rfl
theorem b303_5 (E : En_) : B_ E 303 5 = K303_5 E := rfl
theorem l303 : L_ 303 = 5 := rfl
theorem b304_0 (E : En_) : B_ E 304 0 = K304_0 E := rfl
theorem l304 : L_ 304 = 2 := rfl
theorem b305_0 (E : En_) : B_ E 305 0 = K305_0 E := rfl
theorem b305_1 (E : En_) : B_ E 305 1 = K305_1 E := rfl
theorem b305_2 (E : En_) : B_ E 305 2 = K305_2 E := rfl
theorem b305_3 (E : En_) : B_ E 305 3 = K305_3 E := rfl
theorem l305 : L_ 305 = 9 := rfl
theorem b306_0 (E : En_) : B_ E 306 0 = K306_0 E := rfl
theorem b306_1 (E : En_) : B_ E 306 1 = K306_1 E := rfl
theorem b306_2 (E : En_) : B_ E 306 2 = K306_2 E := rfl
theorem b306_3 (E : En_) : B_ E 306 3 = K306_3 E := rfl
theorem l306 : L_ 306 = 4 := rfl
theorem b307_0 (E : En_) : B_ E 307 0 = K307_0 E := rfl
theorem b307_1 (E : En_) : B_ E 307 1 = K307_1 E := rfl
theorem b307_2 (E : En_) : B_ E 307 2 = K307_2 E := rfl
theorem l307 : L_ 307 = 3 := rfl
theorem b308_0 (E : En_) : B_ E 308 0 = K308_0 E := rfl
theorem b308_1 (E : En_) : B_ E 308 1 = K308_1 E := rfl
theorem b308_2 (E : En_) : B_ E 308 2 = K308_2 E := rfl
theorem b308_3 (E : En_) : B_ E 308 3 = K308_3 E := rfl
theorem b308_4 (E : En_) : B_ E 308 4 = K308_4 E := rfl
theorem b308_5 (E : En_) : B_ E 308 5 = K308_5 E := rfl
theorem b308_6 (E : En_) : B_ E 308 6 = K308_6 E := rfl
theorem b308_7 (E : En_) : B_ E 308 7 = K308_7 E := rfl
theorem b308_8 (E : En_) : B_ E 308 8 = K308_8 E := rfl
theorem b308_9 (E : En_) : B_ E 308 9 = K308_9 E := rfl
theorem b308_10 (E : En_) : B_ E 308 10 = K308_10 E := rfl
theorem b308_11 (E : En_) : B_ E 308 11 = K308_11 E := rfl
theorem l308 : L_ 308 = 6 := rfl
theorem b309_0 (E : En_) : B_ E 309 0 = K309_0 E := rfl
theorem l309 : L_ 309 = 2 := rfl
theorem b310_0 (E : En_) : B_ E 310 0 = K310_0 E := rfl
theorem b310_1 (E : En_) : B_ E 310 1 = K310_1 E := rfl
theorem b310_2 (E : En_) : B_ E 310 2 = K310_2 E := rfl
theorem b310_3 (E : En_) : B_ E 310 3 = K310_3 E := rfl
theorem l310 : L_ 310 = 5 := rfl
theorem b311_0 (E : En_) : B_ E 311 0 = K311_0 E := rfl
theorem b311_1 (E : En_) : B_ E 311 1 = K311_1 E := rfl
theorem b311_2 (E : En_) : B_ E 311 2 = K311_2 E := rfl
theorem b311_3 (E : En_) : B_ E 311 3 = K311_3 E := rfl
theorem b311_4 (E : En_) : B_ E 311 4 = K311_4 E := rfl
theorem b311_5 (E : En_) : B_ E 311 5 = K311_5 E := rfl
theorem l311 : L_ 311 = 5 := rfl
theorem b312_0 (E : En_) : B_ E 312 0 = K312_0 E := rfl
theorem b312_1 (E : En_) : B_ E 312 1 = K312_1 E := rfl
theorem b312_2 (E : En_) : B_ E 312 2 = K312_2 E := rfl
theorem b312_3 (E : En_) : B_ E 312 3 = K312_3 E := rfl
theorem b312_4 (E : En_) : B_ E 312 4 = K312_4 E := rfl
theorem b312_5 (E : En_) : B_ E 312 5 = K312_5 E := rfl
theorem b312_6 (E : En_) : B_ E 312 6 = K312_6 E := rfl
theorem b312_7 (E : En_) : B_ E 312 7 = K312_7 E := rfl
theorem b312_8 (E : En_) : B_ E 312 8 = K312_8 E := rfl
theorem b312_9 (E : En_) : B_ E 312 9 = K312_9 E := rfl
theorem l312 : L_ 312 = 9 := rfl
theorem b313_0 (E : En_) : B_ E 313 0 = K313_0 E := rfl
theorem l313 : L_ 313 = 2 := rfl
theorem b314_0 (E : En_) : B_ E 314 0 = K314_0 E := rfl
theorem b314_1 (E : En_) : B_ E 314 1 = K314_1 E := rfl
theorem b314_2 (E : En_) : B_ E 314 2 = K314_2 E := rfl
theorem b314_3 (E : En_) : B_ E 314 3 = K314_3 E := rfl
theorem b314_4 (E : En_) : B_ E 314 4 = K314_4 E := rfl
theorem b314_5 (E : En_) : B_ E 314 5 = K314_5 E := rfl
theorem b314_6 (E : En_) : B_ E 314 6 = K314_6 E := rfl
theorem b314_7 (E : En_) : B_ E 314 7 = K314_7 E := rfl
theorem l314 : L_ 314 = 1 := rfl
theorem b315_0 (E : En_) : B_ E 315 0 = K315_0 E := rfl
theorem b315_1 (E : En_) : B_ E 315 1 = K315_1 E := rfl
theorem b315_2 (E : En_) : B_ E 315 2 = K315_2 E := rfl
theorem b315_3 (E : En_) : B_ E 315 3 = K315_3 E := rfl
theorem b315_4 (E : En_) : B_ E 315 4 = K315_4 E := rfl
theorem b315_5 (E : En_) : B_ E 315 5 = K315_5 E := rfl
theorem b315_6 (E : En_) : B_ E 315 6 = K315_6 E := rfl
theorem b315_7 (E : En_) : B_ E 315 7 = K315_7 E := rfl
theorem b315_8 (E : En_) : B_ E 315 8 = K315_8 E := rfl
theorem b315_9 (E : En_) : B_ E 315 9 = K315_9 E := rfl
theorem b315_10 (E : En_) : B_ E 315 10 = K315_10 E := rfl
theorem b315_11 (E : En_) : B_ E 315 11 = K315_11 E := rfl
theorem b315_12 (E : En_) : B_ E 315 12 = K315_12 E := rfl
theorem b315_13 (E : En_) : B_ E 315 13 = K315_13 E := rfl
theorem b315_14 (E : En_) : B_ E 315 14 = K315_14 E := rfl
theorem b315_15 (E : En_) : B_ E 315 15 = K315_15 E := rfl
theorem b315_16 (E : En_) : B_ E 315 16 = K315_16 E := rfl
theorem l315 : L_ 315 = 3 := rfl
theorem b316_0 (E : En_) : B_ E 316 0 = K316_0 E := rfl
theorem b316_1 (E : En_) : B_ E 316 1 = K316_1 E := rfl
theorem b316_2 (E : En_) : B_ E 316 2 = K316_2 E := rfl
theorem l316 : L_ 316 = 2 := rfl
theorem b317_0 (E : En_) : B_ E 317 0 = K317_0 E := rfl
theorem b317_1 (E : En_) : B_ E 317 1 = K317_1 E := rfl
theorem l317 : L_ 317 = 3 := rfl
theorem b318_0 (E : En_) : B_ E 318 0 = K318_0 E := rfl
theorem b318_1 (E : En_) : B_ E 318 1 = K318_1 E := rfl
theorem b318_2 (E : En_) : B_ E 318 2 = K318_2 E := rfl
theorem l318 : L_ 318 = 2 := rfl
theorem b319_0 (E : En_) : B_ E 319 0 = K319_0 E := rfl
theorem b319_1 (E : En_) : B_ E 319 1 = K319_1 E := rfl
theorem b319_2 (E : En_) : B_ E 319 2 = K319_2 E := rfl
theorem b319_3 (E : En_) : B_ E 319 3 = K319_3 E := rfl
theorem b319_4 (E : En_) : B_ E 319 4 = K319_4 E := rfl
theorem b319_5 (E : En_) : B_ E 319 5 = K319_5 E := rfl
theorem b319_6 (E : En_) : B_ E 319 6 = K319_6 E := rfl
theorem b319_7 (E : En_) : B_ E 319 7 = K319_7 E := rfl
theorem l319 : L_ 319 = 3 := rfl
theorem b320_0 (E : En_) : B_ E 320 0 = K320_0 E := rfl
theorem b320_1 (E : En_) : B_ E 320 1 = K320_1 E := rfl
theorem b320_2 (E : En_) : B_ E 320 2 = K320_2 E := rfl
theorem l320 : L_ 320 = 1 := rfl
theorem b321_0 (E : En_) : B_ E 321 0 = K321_0 E := rfl
theorem b321_1 (E : En_) : B_ E 321 1 = K321_1 E := rfl
theorem b321_2 (E : En_) : B_ E 321 2 = K321_2 E := rfl
theorem l321 : L_ 321 = 3 := rfl
theorem b322_0 (E : En_) : B_ E 322 0 = K322_0 E := rfl
theorem b322_1 (E : En_) : B_ E 322 1 = K322_1 E := rfl
theorem b322_2 (E : En_) : B_ E 322 2 = K322_2 E := rfl
theorem b322_3 (E : En_) : B_ E 322 3 = K322_3 E := rfl
theorem l322 : L_ 322 = 4 := rfl
theorem b323_0 (E : En_) : B_ E 323 0 = K323_0 E := rfl
theorem b323_1 (E : En_) : B_ E 323 1 = K323_1 E := rfl
theorem b323_2 (E : En_) : B_ E 323 2 = K323_2 E := rfl
theorem b323_3 (E : En_) : B_ E 323 3 = K323_3 E := rfl
theorem b323_4 (E : En_) : B_ E 323 4 = K323_4 E := rfl
theorem b323_5 (E : En_) : B_ E 323 5 = K323_5 E := rfl
theorem l323 : L_ 323 = 5 := rfl
theorem b324_0 (E : En_) : B_ E 324 0 = K324_0 E := rfl
theorem b324_1 (E : En_) : B_ E 324 1 = K324_1 E := rfl
theorem b324_2 (E : En_) : B_ E 324 2 = K324_2 E := rfl
theorem l324 : L_ 324 = 2 := rfl
theorem b325_0 (E : En_) : B_ E 325 0 = K325_0 E := rfl
theorem l325 : L_ 325 = 4 := rfl
theorem b326_0 (E : En_) : B_ E 326 0 = K326_0 E := rfl
theorem b326_1 (E : En_) : B_ E 326 1 = K326_1 E := rfl
theorem b326_2 (E : En_) : B_ E 326 2 = K326_2 E := rfl
theorem b326_3 (E : En_) : B_ E 326 3 = K326_3 E := rfl
theorem b326_4 (E : En_) : B_ E 326 4 = K326_4 E := rfl
theorem b326_5 (E : En_) : B_ E 326 5 = K326_5 E := rfl
theorem b326_6 (E : En_) : B_ E 326 6 = K326_6 E := rfl
theorem b326_7 (E : En_) : B_ E 326 7 = K326_7 E := rfl
theorem b326_8 (E : En_) : B_ E 326 8 = K326_8 E := rfl
theorem l326 : L_ 326 = 5 := rfl
theorem b327_0 (E : En_) : B_ E 327 0 = K327_0 E := rfl
theorem b327_1 (E : En_) : B_ E 327 1 = K327_1 E := rfl
theorem b327_2 (E : En_) : B_ E 327 2 = K327_2 E := rfl
theorem b327_3 (E : En_) : B_ E 327 3 = K327_3 E := rfl
theorem b327_4 (E : En_) : B_ E 327 4 = K327_4 E := rfl
theorem b327_5 (E : En_) : B_ E 327 5 = K327_5 E := rfl
theorem l327 : L_ 327 = 3 := rfl
theorem b328_0 (E : En_) : B_ E 328 0 = K328_0 E := rfl
theorem b328_1 (E : En_) : B_ E 328 1 = K328_1 E := rfl
theorem b328_2 (E : En_) : B_ E 328 2 = K328_2 E := rfl
theorem b328_3 (E : En_) : B_ E 328 3 = K328_3 E := rfl
theorem b328_4 (E : En_) : B_ E 328 4 = K328_4 E := rfl
theorem b328_5 (E : En_) : B_ E 328 5 = K328_5 E := rfl
theorem b328_6 (E : En_) : B_ E 328 6 = K328_6 E := rfl
theorem b328_7 (E : En_) : B_ E 328 7 = K328_7 E := rfl
theorem b328_8 (E : En_) : B_ E 328 8 = K328_8 E := rfl
theorem l328 : L_ 328 = 2 := rfl
theorem b329_0 (E : En_) : B_ E 329 0 = K329_0 E := rfl
theorem l329 : L_ 329 = 1 := rfl
theorem b330_0 (E : En_) : B_ E 330 0 = K330_0 E := rfl
theorem b330_1 (E : En_) : B_ E 330 1 = K330_1 E := rfl
theorem l330 : L_ 330 = 6 := rfl
theorem b331_0 (E : En_) : B_ E 331 0 = K331_0 E := rfl
theorem b331_1 (E : En_) : B_ E 331 1 = K331_1 E := rfl
theorem b331_2 (E : En_) : B_ E 331 2 = K331_2 E := rfl
theorem l331 : L_ 331 = 3 := rfl
theorem b332_0 (E : En_) : B_ E 332 0 = K332_0 E := rfl
theorem b332_1 (E : En_) : B_ E 332 1 = K332_1 E := rfl
theorem l332 : L_ 332 = 2 := rfl
theorem b333_0 (E : En_) : B_ E 333 0 = K333_0 E := rfl
theorem b333_1 (E : En_) : B_ E 333 1 = K333_1 E := rfl
theorem b333_2 (E : En_) : B_ E 333 2 = K333_2 E := rfl
theorem l333 : L_ 333 = 3 := rfl
theorem b334_0 (E : En_) : B_ E 334 0 = K334_0 E := rfl
theorem b334_1 (E : En_) : B_ E 334 1 = K334_1 E := rfl
theorem b334_2 (E : En_) : B_ E 334 2 = K334_2 E := rfl
theorem l334 : L_ 334 = 4 := rfl
theorem b335_0 (E : En_) : B_ E 335 0 = K335_0 E := rfl
theorem l335 : L_ 335 = 1 := rfl
theorem b336_0 (E : En_) : B_ E 336 0 = K336_0 E := rfl
theorem l336 : L_ 336 = 1 := rfl
theorem b337_0 (E : En_) : B_ E 337 0 = K337_0 E := rfl
theorem b337_1 (E : En_) : B_ E 337 1 = K337_1 E := rfl
theorem b337_2 (E : En_) : B_ E 337 2 = K337_2 E := rfl
theorem b337_3 (E : En_) : B_ E 337 3 = K337_3 E := rfl
theorem b337_4 (E : En_) : B_ E 337 4 = K337_4 E := rfl
theorem b337_5 (E : En_) : B_ E 337 5 = K337_5 E := rfl
theorem b337_6 (E : En_) : B_ E 337 6 = K337_6 E := rfl
theorem b337_7 (E : En_) : B_ E 337 7 = K337_7 E := rfl
theorem b337_8 (E : En_) : B_ E 337 8 = K337_8 E := rfl
theorem b337_9 (E : En_) : B_ E 337 9 = K337_9 E := rfl
theorem b337_10 (E : En_) : B_ E 337 10 = K337_10 E := rfl
theorem b337_11 (E : En_) : B_ E 337 11 = K337_11 E := rfl
theorem b337_12 (E : En_) : B_ E 337 12 = K337_12 E := rfl
theorem b337_13 (E : En_) : B_ E 337 13 = K337_13 E := rfl
theorem l337 : L_ 337 = 2 := rfl
theorem b338_0 (E : En_) : B_ E 338 0 = K338_0 E := rfl
theorem b338_1 (E : En_) : B_ E 338 1 = K338_1 E := rfl
theorem b338_2 (E : En_) : B_ E 338 2 = K338_2 E := rfl
theorem l338 : L_ 338 = 1 := rfl
theorem b339_0 (E : En_) : B_ E 339 0 = K339_0 E := rfl
theorem l339 : L_ 339 = 1 := rfl
theorem b340_0 (E : En_) : B_ E 340 0 = K340_0 E := rfl
theorem l340 : L_ 340 = 2 := rfl
theorem b341_0 (E : En_) : B_ E 341 0 = K341_0 E := rfl
theorem b341_1 (E : En_) : B_ E 341 1 = K341_1 E := rfl
theorem b341_2 (E : En_) : B_ E 341 2 = K341_2 E := rfl
theorem b341_3 (E : En_) : B_ E 341 3 = K341_3 E := rfl
theorem l341 : L_ 341 = 2 := rfl
theorem b342_0 (E : En_) : B_ E 342 0 = K342_0 E := rfl
theorem l342 : L_ 342 = 1 := rfl
theorem b343_0 (E : En_) : B_ E 343 0 = K343_0 E := rfl
theorem b343_1 (E : En_) : B_ E 343 1 = K343_1 E := rfl
theorem b343_2 (E : En_) : B_ E 343 2 = K343_2 E := rfl
theorem l343 : L_ 343 = 3 := rfl
theorem b344_0 (E : En_) : B_ E 344 0 = K344_0 E := rfl
theorem b344_1 (E : En_) : B_ E 344 1 = K344_1 E := rfl
theorem b344_2 (E : En_) : B_ E 344 2 = K344_2 E := rfl
theorem b344_3 (E : En_) : B_ E 344 3 = K344_3 E := rfl
theorem b344_4 (E : En_) : B_ E 344 4 = K344_4 E := rfl
theorem b344_5 (E : En_) : B_ E 344 5 = K344_5 E := rfl
theorem l344 : L_ 344 = 4 := rfl
theorem b345_0 (E : En_) : B_ E 345 0 = K345_0 E := rfl
theorem l345 : L_ 345 = 1 := rfl
theorem b346_0 (E : En_) : B_ E 346 0 = K346_0 E := rfl
theorem b346_1 (E : En_) : B_ E 346 1 = K346_1 E := rfl
theorem b346_2 (E : En_) : B_ E 346 2 = K346_2 E := rfl
theorem b346_3 (E : En_) : B_ E 346 3 = K346_3 E := rfl
theorem b346_4 (E : En_) : B_ E 346 4 = K346_4 E := rfl
theorem l346 : L_ 346 = 6 := rfl
theorem b347_0 (E : En_) : B_ E 347 0 = K347_0 E := rfl
theorem l347 : L_ 347 = 1 := rfl
theorem b348_0 (E : En_) : B_ E 348 0 = K348_0 E := rfl
theorem b348_1 (E : En_) : B_ E 348 1 = K348_1 E := rfl
theorem b348_2 (E : En_) : B_ E 348 2 = K348_2 E := rfl
theorem b348_3 (E : En_) : B_ E 348 3 = K348_3 E := rfl
theorem b348_4 (E : En_) : B_ E 348 4 = K348_4 E := rfl
theorem b348_5 (E : En_) : B_ E 348 5 = K348_5 E := rfl
theorem l348 : L_ 348 = 4 := rfl
theorem b349_0 (E : En_) : B_ E 349 0 = K349_0 E := rfl
theorem b349_1 (E : En_) : B_ E 349 1 = K349_1 E := rfl
theorem b349_2 (E : En_) : B_ E 349 2 = K349_2 E := rfl
theorem b349_3 (E : En_) : B_ E 349 3 = K349_3 E := rfl
theorem b349_4 (E : En_) : B_ E 349 4 = K349_4 E := rfl
theorem l349 : L_ 349 = 5 := rfl
theorem b350_0 (E : En_) : B_ E 350 0 = K350_0 E := rfl
theorem b350_1 (E : En_) : B_ E 350 1 = K350_1 E := rfl
theorem b350_2 (E : En_) : B_ E 350 2 = K350_2 E := rfl
theorem b350_3 (E : En_) : B_ E 350 3 = K350_3 E := rfl
theorem b350_4 (E : En_) : B_ E 350 4 = K350_4 E := rfl
theorem b350_5 (E : En_) : B_ E 350 5 = K350_5 E := rfl
theorem b350_6 (E : En_) : B_ E 350 6 = K350_6 E := rfl
theorem l350 : L_ 350 = 4 := rfl
theorem b351_0 (E : En_) : B_ E 351 0 = K351_0 E := rfl
theorem b351_1 (E : En_) : B_ E 351 1 = K351_1 E := rfl
theorem b351_2 (E : En_) : B_ E 351 2 = K351_2 E := rfl
theorem l351 : L_ 351 = 2 := rfl
theorem b352_0 (E : En_) : B_ E 352 0 = K352_0 E := rfl
theorem b352_1 (E : En_) : B_ E 352 1 = K352_1 E := rfl
theorem b352_2 (E : En_) : B_ E 352 2 = K352_2 E := rfl
theorem b352_3 (E : En_) : B_ E 352 3 = K352_3 E := rfl
theorem b352_4 (E : En_) : B_ E 352 4 = K352_4 E := rfl
theorem b352_5 (E : En_) : B_ E 352 5 = K352_5 E := rfl
theorem l352 : L_ 352 = 7 := rfl
theorem b353_0 (E : En_) : B_ E 353 0 = K353_0 E := rfl
theorem b353_1 (E : En_) : B_ E 353 1 = K353_1 E := rfl
theorem b353_2 (E : En_) : B_ E 353 2 = K353_2 E := rfl
theorem b353_3 (E : En_) : B_ E 353 3 = K353_3 E := rfl
theorem b353_4 (E : En_) : B_ E 353 4 = K353_4 E := rfl
theorem l353 : L_ 353 = 4 := rfl
theorem b354_0 (E : En_) : B_ E 354 0 = K354_0 E := rfl
theorem b354_1 (E : En_) : B_ E 354 1 = K354_1 E := rfl
theorem b354_2 (E : En_) : B_ E 354 2 = K354_2 E := rfl
theorem b354_3 (E : En_) : B_ E 354 3 = K354_3 E := rfl
theorem b354_4 (E : En_) : B_ E 354 4 = K354_4 E := rfl
theorem b354_5 (E : En_) : B_ E 354 5 = K354_5 E := rfl
theorem b354_6 (E : En_) : B_ E 354 6 = K354_6 E := rfl
theorem l354 : L_ 354 = 4 := rfl
theorem b355_0 (E : En_) : B_ E 355 0 = K355_0 E := rfl
theorem l355 : L_ 355 = 1 := rfl
theorem b356_0 (E : En_) : B_ E 356 0 = K356_0 E := rfl
theorem b356_1 (E : En_) : B_ E 356 1 = K356_1 E := rfl
theorem l356 : L_ 356 = 1 := rfl
theorem b357_0 (E : En_) : B_ E 357 0 = K357_0 E := rfl
theorem l357 : L_ 357 = 1 := rfl
theorem b358_0 (E : En_) : B_ E 358 0 = K358_0 E := rfl
theorem b358_1 (E : En_) : B_ E 358 1 = K358_1 E := rfl
theorem b358_2 (E : En_) : B_ E 358 2 = K358_2 E := rfl
theorem b358_3 (E : En_) : B_ E 358 3 = K358_3 E := rfl
theorem b358_4 (E : En_) : B_ E 358 4 = K358_4 E := rfl
theorem b358_5 (E : En_) : B_ E 358 5 = K358_5 E := rfl
theorem b358_6 (E : En_) : B_ E 358 6 = K358_6 E := rfl
theorem l358 : L_ 358 = 3 := rfl
theorem b359_0 (E : En_) : B_ E 359 0 = K359_0 E := rfl
theorem b359_1 (E : En_) : B_ E 359 1 = K359_1 E := rfl
theorem b359_2 (E : En_) : B_ E 359 2 = K359_2 E := rfl
theorem l359 : L_ 359 = 2 := rfl
theorem b360_0 (E : En_) : B_ E 360 0 = K360_0 E := rfl
theorem l360 : L_ 360 = 1 := rfl
theorem b361_0 (E : En_) : B_ E 361 0 = K361_0 E := rfl
theorem b361_1 (E : En_) : B_ E 361 1 = K361_1 E := rfl
theorem b361_2 (E : En_) : B_ E 361 2 = K361_2 E := rfl
theorem l361 : L_ 361 = 3 := rfl
theorem b362_0 (E : En_) : B_ E 362 0 = K362_0 E := rfl
theorem l362 : L_ 362 = 3 := rfl
theorem b363_0 (E : En_) : B_ E 363 0 = K363_0 E := rfl
theorem l363 : L_ 363 = 2 := rfl
theorem b364_0 (E : En_) : B_ E 364 0 = K364_0 E := rfl
theorem b364_1 (E : En_) : B_ E 364 1 = K364_1 E := rfl
theorem l364 : L_ 364 = 1 := rfl
theorem b365_0 (E : En_) : B_ E 365 0 = K365_0 E := rfl
theorem b365_1 (E : En_) : B_ E 365 1 = K365_1 E := rfl
theorem b365_2 (E : En_) : B_ E 365 2 = K365_2 E := rfl
theorem b365_3 (E : En_) : B_ E 365 3 = K365_3 E := rfl
theorem b365_4 (E : En_) : B_ E 365 4 = K365_4 E := rfl
theorem b365_5 (E : En_) : B_ E 365 5 = K365_5 E := rfl
theorem b365_6 (E : En_) : B_ E 365 6 = K365_6 E := rfl
theorem b365_7 (E : En_) : B_ E 365 7 = K365_7 E := rfl
theorem l365 : L_ 365 = 3 := rfl
theorem b366_0 (E : En_) : B_ E 366 0 = K366_0 E := rfl
theorem b366_1 (E : En_) : B_ E 366 1 = K366_1 E := rfl
theorem b366_2 (E : En_) : B_ E 366 2 = K366_2 E := rfl
theorem l366 : L_ 366 = 5 := rfl
theorem b367_0 (E : En_) : B_ E 367 0 = K367_0 E := rfl
theorem b367_1 (E : En_) : B_ E 367 1 = K367_1 E := rfl
theorem b367_2 (E : En_) : B_ E 367 2 = K367_2 E := rfl
theorem b367_3 (E : En_) : B_ E 367 3 = K367_3 E := rfl
theorem b367_4 (E : En_) : B_ E 367 4 = K367_4 E := rfl
theorem b367_5 (E : En_) : B_ E 367 5 = K367_5 E := rfl
theorem l367 : L_ 367 = 6 := rfl
theorem b368_0 (E : En_) : B_ E 368 0 = K368_0 E := rfl
theorem l368 : L_ 368 = 2 := rfl
theorem b369_0 (E : En_) : B_ E 369 0 = K369_0 E := rfl
theorem b369_1 (E : En_) : B_ E 369 1 = K369_1 E := rfl
theorem b369_2 (E : En_) : B_ E 369 2 = K369_2 E := rfl
theorem b369_3 (E : En_) : B_ E 369 3 = K369_3 E := rfl
theorem b369_4 (E : En_) : B_ E 369 4 = K369_4 E := rfl
theorem l369 : L_ 369 = 2 := rfl
theorem b370_0 (E : En_) : B_ E 370 0 = K370_0 E := rfl
theorem l370 : L_ 370 = 4 := rfl
theorem b371_0 (E : En_) : B_ E 371 0 = K371_0 E := rfl
theorem b371_1 (E : En_) : B_ E 371 1 = K371_1 E := rfl
theorem b371_2 (E : En_) : B_ E 371 2 = K371_2 E := rfl
theorem b371_3 (E : En_) : B_ E 371 3 = K371_3 E := rfl
theorem b371_4 (E : En_) : B_ E 371 4 = K371_4 E := rfl
theorem b371_5 (E : En_) : B_ E 371 5 = K371_5 E := rfl
theorem b371_6 (E : En_) : B_ E 371 6 = K371_6 E := rfl
theorem b371_7 (E : En_) : B_ E 371 7 = K371_7 E := rfl
theorem b371_8 (E : En_) : B_ E 371 8 = K371_8 E := rfl
theorem b371_9 (E : En_) : B_ E 371 9 = K371_9 E := rfl
theorem b371_10 (E : En_) : B_ E 371 10 = K371_10 E := rfl
theorem b371_11 (E : En_) : B_ E 371 11 = K371_11 E := rfl
theorem b371_12 (E : En_) : B_ E 371 12 = K371_12 E := rfl
theorem l371 : L_ 371 = 4 := rfl
theorem b372_0 (E : En_) : B_ E 372 0 = K372_0 E := rfl
theorem l372 : L_ 372 = 2 := rfl
theorem b373_0 (E : En_) : B_ E 373 0 = K373_0 E := rfl
theorem b373_1 (E : En_) : B_ E 373 1 = K373_1 E := rfl
theorem b373_2 (E : En_) : B_ E 373 2 = K373_2 E := rfl
theorem l373 : L_ 373 = 4 := rfl
theorem b374_0 (E : En_) : B_ E 374 0 = K374_0 E := rfl
theorem b374_1 (E : En_) : B_ E 374 1 = K374_1 E := rfl
theorem b374_2 (E : En_) : B_ E 374 2 = K374_2 E := rfl
theorem b374_3 (E : En_) : B_ E 374 3 = K374_3 E := rfl
theorem b374_4 (E : En_) : B_ E 374 4 = K374_4 E := rfl
theorem b374_5 (E : En_) : B_ E 374 5 = K374_5 E := rfl
theorem b374_6 (E : En_) : B_ E 374 6 = K374_6 E := rfl
theorem b374_7 (E : En_) : B_ E 374 7 = K374_7 E := rfl
theorem b374_8 (E : En_) : B_ E 374 8 = K374_8 E := rfl
theorem b374_9 (E : En_) : B_ E 374 9 = K374_9 E := rfl
theorem l374 : L_ 374 = 6 := rfl
theorem b375_0 (E : En_) : B_ E 375 0 = K375_0 E := rfl
theorem b375_1 (E : En_) : B_ E 375 1 = K375_1 E := rfl
theorem l375 : L_ 375 = 1 := rfl
theorem b376_0 (E : En_) : B_ E 376 0 = K376_0 E := rfl
theorem l376 : L_ 376 = 3 := rfl
theorem b377_0 (E : En_) : B_ E 377 0 = K377_0 E := rfl
theorem b377_1 (E : En_) : B_ E 377 1 = K377_1 E := rfl
theorem b377_2 (E : En_) : B_ E 377 2 = K377_2 E := rfl
theorem b377_3 (E : En_) : B_ E 377 3 = K377_3 E := rfl
theorem b377_4 (E : En_) : B_ E 377 4 = K377_4 E := rfl
theorem b377_5 (E : En_) : B_ E 377 5 = K377_5 E := rfl
theorem b377_6 (E : En_) : B_ E 377 6 = K377_6 E := rfl
theorem b377_7 (E : En_) : B_ E 377 7 = K377_7 E := rfl
theorem b377_8 (E : En_) : B_ E 377 8 = K377_8 E := rfl
theorem l377 : L_ 377 = 4 := rfl
theorem b378_0 (E : En_) : B_ E 378 0 = K378_0 E := rfl
theorem l378 : L_ 378 = 2 := rfl
theorem b379_0 (E : En_) : B_ E 379 0 = K379_0 E := rfl
theorem b379_1 (E : En_) : B_ E 379 1 = K379_1 E := rfl
theorem b379_2 (E : En_) : B_ E 379 2 = K379_2 E := rfl
theorem l379 : L_ 379 = 4 := rfl
theorem b380_0 (E : En_) : B_ E 380 0 = K380_0 E := rfl
theorem b380_1 (E : En_) : B_ E 380 1 = K380_1 E := rfl
theorem b380_2 (E : En_) : B_ E 380 2 = K380_2 E := rfl
theorem l380 : L_ 380 = 2 := rfl
theorem b381_0 (E : En_) : B_ E 381 0 = K381_0 E := rfl
theorem b381_1 (E : En_) : B_ E 381 1 = K381_1 E := rfl
theorem b381_2 (E : En_) : B_ E 381 2 = K381_2 E := rfl
theorem b381_3 (E : En_) : B_ E 381 3 = K381_3 E := rfl
theorem b381_4 (E : En_) : B_ E 381 4 = K381_4 E := rfl
theorem b381_5 (E : En_) : B_ E 381 5 = K381_5 E := rfl
theorem l381 : L_ 381 = 6 := rfl
theorem b382_0 (E : En_) : B_ E 382 0 = K382_0 E := rfl
theorem b382_1 (E : En_) : B_ E 382 1 = K382_1 E := rfl
theorem b382_2 (E : En_) : B_ E 382 2 = K382_2 E := rfl
theorem b382_3 (E : En_) : B_ E 382 3 = K382_3 E := rfl
theorem b382_4 (E : En_) : B_ E 382 4 = K382_4 E := rfl
theorem b382_5 (E : En_) : B_ E 382 5 = K382_5 E := rfl
theorem b382_6 (E : En_) : B_ E 382 6 = K382_6 E := rfl
theorem l382 : L_ 382 = 9 := rfl
theorem b383_0 (E : En_) : B_ E 383 0 = K383_0 E := rfl
theorem l383 : L_ 383 = 2 := rfl
theorem b384_0 (E : En_) : B_ E 384 0 = K384_0 E := rfl
theorem l384 : L_ 384 = 3 := rfl
theorem b385_0 (E : En_) : B_ E 385 0 = K385_0 E := rfl
theorem b385_1 (E : En_) : B_ E 385 1 = K385_1 E := rfl
theorem b385_2 (E : En_) : B_ E 385 2 = K385_2 E := rfl
theorem l385 : L_ 385 = 4 := rfl
theorem b386_0 (E : En_) : B_ E 386 0 = K386_0 E := rfl
theorem b386_1 (E : En_) : B_ E 386 1 = K386_1 E := rfl
theorem b386_2 (E : En_) : B_ E 386 2 = K386_2 E := rfl
theorem b386_3 (E : En_) : B_ E 386 3 = K386_3 E := rfl
theorem b386_4 (E : En_) : B_ E 386 4 = K386_4 E := rfl
theorem l386 : L_ 386 = 6 := rfl
theorem b387_0 (E : En_) : B_ E 387 0 = K387_0 E := rfl
theorem b387_1 (E : En_) : B_ E 387 1 = K387_1 E := rfl
theorem l387 : L_ 387 = 1 := rfl
theorem b388_0 (E : En_) : B_ E 388 0 = K388_0 E := rfl
theorem l388 : L_ 388 = 4 := rfl
theorem b389_0 (E : En_) : B_ E 389 0 = K389_0 E := rfl
theorem l389 : L_ 389 = 4 := rfl
theorem b390_0 (E : En_) : B_ E 390 0 = K390_0 E := rfl
theorem l390 : L_ 390 = 4 := rfl
theorem b391_0 (E : En_) : B_ E 391 0 = K391_0 E := rfl
theorem l391 : L_ 391 = 2 := rfl
theorem b392_0 (E : En_) : B_ E 392 0 = K392_0 E := rfl
theorem l392 : L_ 392 = 2 := rfl
theorem b393_0 (E : En_) : B_ E 393 0 = K393_0 E := rfl
theorem l393 : L_ 393 = 3 := rfl
theorem b394_0 (E : En_) : B_ E 394 0 = K394_0 E := rfl
theorem l394 : L_ 394 = 4 := rfl
theorem b395_0 (E : En_) : B_ E 395 0 = K395_0 E := rfl
theorem b395_1 (E : En_) : B_ E 395 1 = K395_1 E := rfl
theorem b395_2 (E : En_) : B_ E 395 2 = K395_2 E := rfl
theorem l395 : L_ 395 = 1 := rfl
theorem b396_0 (E : En_) : B_ E 396 0 = K396_0 E := rfl
theorem b396_1 (E : En_) : B_ E 396 1 = K396_1 E := rfl
theorem b396_2 (E : En_) : B_ E 396 2 = K396_2 E := rfl
theorem b396_3 (E : En_) : B_ E 396 3 = K396_3 E := rfl
theorem b396_4 (E : En_) : B_ E 396 4 = K396_4 E := rfl
theorem l396 : L_ 396 = 4 := rfl
theorem b397_0 (E : En_) : B_ E 397 0 = K397_0 E := rfl
theorem b397_1 (E : En_) : B_ E 397 1 = K397_1 E := rfl
theorem b397_2 (E : En_) : B_ E 397 2 = K397_2 E := rfl
theorem b397_3 (E : En_) : B_ E 397 3 = K397_3 E := rfl
theorem l397 : L_ 397 = 3 := rfl
theorem b398_0 (E : En_) : B_ E 398 0 = K398_0 E := rfl
theorem b398_1 (E : En_) : B_ E 398 1 = K398_1 E := rfl
theorem b398_2 (E : En_) : B_ E 398 2 = K398_2 E := rfl
theorem l398 : L_ 398 = 1 := rfl
theorem b399_0 (E : En_) : B_ E 399 0 = K399_0 E := rfl
theorem b399_1 (E : En_) : B_ E 399 1 = K399_1 E := rfl
theorem b399_2 (E : En_) : B_ E 399 2 = K399_2 E := rfl
theorem l399 : L_ 399 = 5 := rfl
theorem b400_0 (E : En_) : B_ E 400 0 = K400_0 E := rfl
theorem b400_1 (E : En_) : B_ E 400 1 = K400_1 E := rfl
theorem b400_2 (E : En_) : B_ E 400 2 = K400_2 E := rfl
theorem b400_3 (E : En_) : B_ E 400 3 = K400_3 E := rfl
theorem l400 : L_ 400 = 5 := rfl
theorem b401_0 (E : En_) : B_ E 401 0 = K401_0 E := rfl
theorem b401_1 (E : En_) : B_ E 401 1 = K401_1 E := rfl
theorem b401_2 (E : En_) : B_ E 401 2 = K401_2 E := rfl
theorem l401 : L_ 401 = 4 := rfl
theorem b402_0 (E : En_) : B_ E 402 0 = K402_0 E := rfl
theorem b402_1 (E : En_) : B_ E 402 1 = K402_1 E := rfl
theorem b402_2 (E : En_) : B_ E 402 2 = K402_2 E := rfl
theorem l402 : L_ 402 = 4 := rfl
theorem b403_0 (E : En_) : B_ E 403 0 = K403_0 E := rfl
theorem b403_1 (E : En_) : B_ E 403 1 = K403_1 E := rfl
theorem b403_2 (E : En_) : B_ E 403 2 = K403_2 E := rfl
theorem b403_3 (E : En_) : B_ E 403 3 = K403_3 E := rfl
theorem l403 : L_ 403 = 5 := rfl
theorem b404_0 (E : En_) : B_ E 404 0 = K404_0 E := rfl
theorem b404_1 (E : En_) : B_ E 404 1 = K404_1 E := rfl
theorem b404_2 (E : En_) : B_ E 404 2 = K404_2 E := rfl
theorem l404 : L_ 404 = 5 := rfl
theorem b405_0 (E : En_) : B_ E 405 0 = K405_0 E := rfl
theorem b405_1 (E : En_) : B_ E 405 1 = K405_1 E := rfl
theorem b405_2 (E : En_) : B_ E 405 2 = K405_2 E := rfl
theorem b405_3 (E : En_) : B_ E 405 3 = K405_3 E := rfl
theorem l405 : L_ 405 = 6 := rfl
theorem b406_0 (E : En_) : B_ E 406 0 = K406_0 E := rfl
theorem b406_1 (E : En_) : B_ E 406 1 = K406_1 E := rfl
theorem b406_2 (E : En_) : B_ E 406 2 = K406_2 E := rfl
theorem l406 : L_ 406 = 5 := rfl
theorem b407_0 (E : En_) : B_ E 407 0 = K407_0 E := rfl
theorem b407_1 (E : En_) : B_ E 407 1 = K407_1 E := rfl
theorem b407_2 (E : En_) : B_ E 407 2 = K407_2 E := rfl
theorem b407_3 (E : En_) : B_ E 407 3 = K407_3 E := rfl
theorem l407 : L_ 407 = 5 := rfl
theorem b408_0 (E : En_) : B_ E 408 0 = K408_0 E := rfl
theorem b408_1 (E : En_) : B_ E 408 1 = K408_1 E := rfl
theorem b408_2 (E : En_) : B_ E 408 2 = K408_2 E := rfl
theorem l408 : L_ 408 = 5 := rfl
theorem b409_0 (E : En_) : B_ E 409 0 = K409_0 E := rfl
theorem b409_1 (E : En_) : B_ E 409 1 = K409_1 E := rfl
theorem b409_2 (E : En_) : B_ E 409 2 = K409_2 E := rfl
theorem l409 : L_ 409 = 4 := rfl
theorem b410_0 (E : En_) : B_ E 410 0 = K410_0 E := rfl
theorem b410_1 (E : En_) : B_ E 410 1 = K410_1 E := rfl
theorem b410_2 (E : En_) : B_ E 410 2 = K410_2 E := rfl
theorem l410 : L_ 410 = 5 := rfl
theorem b411_0 (E : En_) : B_ E 411 0 = K411_0 E := rfl
theorem b411_1 (E : En_) : B_ E 411 1 = K411_1 E := rfl
theorem b411_2 (E : En_) : B_ E 411 2 = K411_2 E := rfl
theorem l411 : L_ 411 = 4 := rfl
theorem b412_0 (E : En_) : B_ E 412 0 = K412_0 E := rfl
theorem b412_1 (E : En_) : B_ E 412 1 = K412_1 E := rfl
theorem b412_2 (E : En_) : B_ E 412 2 = K412_2 E := rfl
theorem l412 : L_ 412 = 4 := rfl
theorem b413_0 (E : En_) : B_ E 413 0 = K413_0 E := rfl
theorem b413_1 (E : En_) : B_ E 413 1 = K413_1 E := rfl
theorem b413_2 (E : En_) : B_ E 413 2 = K413_2 E := rfl
theorem l413 : L_ 413 = 4 := rfl
theorem b414_0 (E : En_) : B_ E 414 0 = K414_0 E := rfl
theorem b414_1 (E : En_) : B_ E 414 1 = K414_1 E := rfl
theorem b414_2 (E : En_) : B_ E 414 2 = K414_2 E := rfl
theorem l414 : L_ 414 = 4 := rfl
theorem b415_0 (E : En_) : B_ E 415 0 = K415_0 E := rfl
theorem b415_1 (E : En_) : B_ E 415 1 = K415_1 E := rfl
theorem b415_2 (E : En_) : B_ E 415 2 = K415_2 E := rfl
theorem l415 : L_ 415 = 4 := rfl
theorem b416_0 (E : En_) : B_ E 416 0 = K416_0 E := rfl
theorem b416_1 (E : En_) : B_ E 416 1 = K416_1 E := rfl
theorem b416_2 (E : En_) : B_ E 416 2 = K416_2 E := rfl
theorem b416_3 (E : En_) : B_ E 416 3 = K416_3 E := rfl
theorem b416_4 (E : En_) : B_ E 416 4 = K416_4 E := rfl
theorem l416 : L_ 416 = 8 := rfl
theorem b417_0 (E : En_) : B_ E 417 0 = K417_0 E := rfl
theorem b417_1 (E : En_) : B_ E 417 1 = K417_1 E := rfl
theorem b417_2 (E : En_) : B_ E 417 2 = K417_2 E := rfl
theorem b417_3 (E : En_) : B_ E 417 3 = K417_3 E := rfl
theorem b417_4 (E : En_) : B_ E 417 4 = K417_4 E := rfl
theorem l417 : L_ 417 = 5 := rfl
theorem b418_0 (E : En_) : B_ E 418 0 = K418_0 E := rfl
theorem b418_1 (E : En_) : B_ E 418 1 = K418_1 E := rfl
theorem b418_2 (E : En_) : B_ E 418 2 = K418_2 E := rfl
theorem b418_3 (E : En_) : B_ E 418 3 = K418_3 E := rfl
theorem l418 : L_ 418 = 5 := rfl
theorem b419_0 (E : En_) : B_ E 419 0 = K419_0 E := rfl
theorem b419_1 (E : En_) : B_ E 419 1 = K419_1 E := rfl
theorem b419_2 (E : En_) : B_ E 419 2 = K419_2 E := rfl
theorem b419_3 (E : En_) : B_ E 419 3 = K419_3 E := rfl
theorem b419_4 (E : En_) : B_ E 419 4 = K419_4 E := rfl
theorem b419_5 (E : En_) : B_ E 419 5 = K419_5 E := rfl
theorem l419 : L_ 419 = 5 := rfl
theorem b420_0 (E : En_) : B_ E 420 0 = K420_0 E := rfl
theorem b420_1 (E : En_) : B_ E 420 1 = K420_1 E := rfl
theorem b420_2 (E : En_) : B_ E 420 2 = K420_2 E := rfl
theorem b420_3 (E : En_) : B_ E 420 3 = K420_3 E := rfl
theorem l420 : L_ 420 = 4 := rfl
theorem b421_0 (E : En_) : B_ E 421 0 = K421_0 E := rfl
theorem b421_1 (E : En_) : B_ E 421 1 = K421_1 E := rfl
theorem b421_2 (E : En_) : B_ E 421 2 = K421_2 E := rfl
theorem l421 : L_ 421 = 4 := rfl
theorem b422_0 (E : En_) : B_ E 422 0 = K422_0 E := rfl
theorem b422_1 (E : En_) : B_ E 422 1 = K422_1 E := rfl
theorem b422_2 (E : En_) : B_ E 422 2 = K422_2 E := rfl
theorem l422 : L_ 422 = 4 := rfl
theorem b423_0 (E : En_) : B_ E 423 0 = K423_0 E := rfl
theorem b423_1 (E : En_) : B_ E 423 1 = K423_1 E := rfl
theorem b423_2 (E : En_) : B_ E 423 2 = K423_2 E := rfl
theorem l423 : L_ 423 = 5 := rfl
theorem b424_0 (E : En_) : B_ E 424 0 = K424_0 E := rfl
theorem b424_1 (E : En_) : B_ E 424 1 = K424_1 E := rfl
theorem b424_2 (E : En_) : B_ E 424 2 = K424_2 E := rfl
theorem l424 : L_ 424 = 3 := rfl
theorem b425_0 (E : En_) : B_ E 425 0 = K425_0 E := rfl
theorem b425_1 (E : En_) : B_ E 425 1 = K425_1 E := rfl
theorem b425_2 (E : En_) : B_ E 425 2 = K425_2 E := rfl
theorem l425 : L_ 425 = 4 := rfl
theorem b426_0 (E : En_) : B_ E 426 0 = K426_0 E := rfl
theorem b426_1 (E : En_) : B_ E 426 1 = K426_1 E := rfl
theorem b426_2 (E : En_) : B_ E 426 2 = K426_2 E := rfl
theorem l426 : L_ 426 = 4 := rfl
theorem b427_0 (E : En_) : B_ E 427 0 = K427_0 E := rfl
theorem b427_1 (E : En_) : B_ E 427 1 = K427_1 E := rfl
theorem b427_2 (E : En_) : B_ E 427 2 = K427_2 E := rfl
theorem l427 : L_ 427 = 3 := rfl
theorem b428_0 (E : En_) : B_ E 428 0 = K428_0 E := rfl
theorem b428_1 (E : En_) : B_ E 428 1 = K428_1 E := rfl
theorem b428_2 (E : En_) : B_ E 428 2 = K428_2 E := rfl
theorem b428_3 (E : En_) : B_ E 428 3 = K428_3 E := rfl
theorem b428_4 (E : En_) : B_ E 428 4 = K428_4 E := rfl
theorem b428_5 (E : En_) : B_ E 428 5 = K428_5 E := rfl
theorem b428_6 (E : En_) : B_ E 428 6 = K428_6 E := rfl
theorem b428_7 (E : En_) : B_ E 428 7 = K428_7 E := rfl
theorem b428_8 (E : En_) : B_ E 428 8 = K428_8 E := rfl
theorem b428_9 (E : En_) : B_ E 428 9 = K428_9 E := rfl
theorem b428_10 (E : En_) : B_ E 428 10 = K428_10 E := rfl
theorem b428_11 (E : En_) : B_ E 428 11 = K428_11 E := rfl
theorem b428_12 (E : En_) : B_ E 428 12 = K428_12 E := rfl
theorem b428_13 (E : En_) : B_ E 428 13 = K428_13 E := rfl
theorem b428_14 (E : En_) : B_ E 428 14 = K428_14 E := rfl
theorem b428_15 (E : En_) : B_ E 428 15 = K428_15 E := rfl
theorem b428_16 (E : En_) : B_ E 428 16 = K428_16 E := rfl
theorem b428_17 (E : En_) : B_ E 428 17 = K428_17 E := rfl
theorem b428_18 (E : En_) : B_ E 428 18 = K428_18 E := rfl
theorem b428_19 (E : En_) : B_ E 428 19 = K428_19 E := rfl
theorem b428_20 (E : En_) : B_ E 428 20 = K428_20 E := rfl
theorem b428_21 (E : En_) : B_ E 428 21 = K428_21 E := rfl
theorem b428_22 (E : En_) : B_ E 428 22 = K428_22 E := rfl
theorem b428_23 (E : En_) : B_ E 428 23 = K428_23 E := rfl
theorem b428_24 (E : En_) : B_ E 428 24 = K428_24 E := rfl
theorem b428_25 (E : En_) : B_ E 428 25 = K428_25 E := rfl
theorem b428_26 (E : En_) : B_ E 428 26 = K428_26 E := rfl
theorem b428_27 (E : En_) : B_ E 428 27 = K428_27 E := rfl
theorem b428_28 (E : En_) : B_ E 428 28 = K428_28 E := rfl
theorem b428_29 (E : En_) : B_ E 428 29 = K428_29 E := rfl
theorem b428_30 (E : En_) : B_ E 428 30 = K428_30 E := rfl
theorem b428_31 (E : En_) : B_ E 428 31 = K428_31 E := rfl
theorem b428_32 (E : En_) : B_ E 428 32 = K428_32 E := rfl
theorem b428_33 (E : En_) : B_ E 428 33 = K428_33 E := rfl
theorem b428_34 (E : En_) : B_ E 428 34 = K428_34 E := rfl
theorem b428_35 (E : En_) : B_ E 428 35 = K428_35 E := rfl
theorem b428_36 (E : En_) : B_ E 428 36 = K428_36 E := rfl
theorem b428_37 (E : En_) : B_ E 428 37 = K428_37 E := rfl
theorem b428_38 (E : En_) : B_ E 428 38 = K428_38 E := rfl
theorem b428_39 (E : En_) : B_ E 428 39 = K428_39 E := rfl
theorem b428_40 (E : En_) : B_ E 428 40 = K428_40 E := rfl
theorem b428_41 (E : En_) : B_ E 428 41 = K428_41 E := rfl
theorem b428_42 (E : En_) : B_ E 428 42 = K428_42 E := rfl
theorem b428_43 (E : En_) : B_ E 428 43 = K428_43 E := rfl
theorem b428_44 (E : En_) : B_ E 428 44 = K428_44 E := rfl
theorem b428_45 (E : En_) : B_ E 428 45 = K428_45 E := rfl
theorem b428_46 (E : En_) : B_ E 428 46 = K428_46 E := rfl
theorem b428_47 (E : En_) : B_ E 428 47 = K428_47 E := rfl
theorem b428_48 (E : En_) : B_ E 428 48 = K428_48 E := rfl
theorem b428_49 (E : En_) : B_ E 428 49 = K428_49 E := rfl
theorem b428_50 (E : En_) : B_ E 428 50 = K428_50 E := rfl
theorem b428_51 (E : En_) : B_ E 428 51 = K428_51 E := rfl
theorem b428_52 (E : En_) : B_ E 428 52 = K428_52 E := rfl
theorem b428_53 (E : En_) : B_ E 428 53 = K428_53 E := rfl
theorem b428_54 (E : En_) : B_ E 428 54 = K428_54 E := rfl
theorem b428_55 (E : En_) : B_ E 428 55 = K428_55 E := rfl
theorem b428_56 (E : En_) : B_ E 428 56 = K428_56 E := rfl
theorem b428_57 (E : En_) : B_ E 428 57 = K428_57 E := rfl
theorem b428_58 (E : En_) : B_ E 428 58 = K428_58 E := rfl
theorem b428_59 (E : En_) : B_ E 428 59 = K428_59 E := rfl
theorem b428_60 (E : En_) : B_ E 428 60 = K428_60 E := rfl
theorem b428_61 (E : En_) : B_ E 428 61 = K428_61 E := rfl
theorem b428_62 (E : En_) : B_ E 428 62 = K428_62 E := rfl
theorem b428_63 (E : En_) : B_ E 428 63 = K428_63 E := rfl
theorem b428_64 (E : En_) : B_ E 428 64 = K428_64 E := rfl
theorem b428_65 (E : En_) : B_ E 428 65 = K428_65 E := rfl
theorem b428_66 (E : En_) : B_ E 428 66 = K428_66 E := rfl
theorem b428_67 (E : En_) : B_ E 428 67 = K428_67 E := rfl
theorem b428_68 (E : En_) : B_ E 428 68 = K428_68 E := rfl
theorem b428_69 (E : En_) : B_ E 428 69 = K428_69 E := rfl
theorem b428_70 (E : En_) : B_ E 428 70 = K428_70 E := rfl
theorem b428_71 (E : En_) : B_ E 428 71 = K428_71 E := rfl
theorem b428_72 (E : En_) : B_ E 428 72 = K428_72 E := rfl
theorem b428_73 (E : En_) : B_ E 428 73 = K428_73 E := rfl
theorem b428_74 (E : En_) : B_ E 428 74 = K428_74 E := rfl
theorem b428_75 (E : En_) : B_ E 428 75 = K428_75 E := rfl
theorem b428_76 (E : En_) : B_ E 428 76 = K428_76 E := rfl
theorem b428_77 (E : En_) : B_ E 428 77 = K428_77 E := rfl
theorem b428_78 (E : En_) : B_ E 428 78 = K428_78 E := rfl
theorem b428_79 (E : En_) : B_ E 428 79 = K428_79 E := rfl
theorem b428_80 (E : En_) : B_ E 428 80 = K428_80 E := rfl
theorem b428_81 (E : En_) : B_ E 428 81 = K428_81 E := rfl
theorem b428_82 (E : En_) : B_ E 428 82 = K428_82 E := rfl
theorem b428_83 (E : En_) : B_ E 428 83 = K428_83 E := rfl
theorem b428_84 (E : En_) : B_ E 428 84 = K428_84 E := rfl
theorem b428_85 (E : En_) : B_ E 428 85 = K428_85 E := rfl
theorem b428_86 (E : En_) : B_ E 428 86 = K428_86 E := rfl
theorem b428_87 (E : En_) : B_ E 428 87 = K428_87 E := rfl
theorem b428_88 (E : En_) : B_ E 428 88 = K428_88 E := rfl
theorem b428_89 (E : En_) : B_ E 428 89 = K428_89 E := rfl
theorem b428_90 (E : En_) : B_ E 428 90 = K428_90 E := rfl
theorem b428_91 (E : En_) : B_ E 428 91 = K428_91 E := rfl
theorem b428_92 (E : En_) : B_ E 428 92 = K428_92 E := rfl
theorem b428_93 (E : En_) : B_ E 428 93 = K428_93 E := rfl
theorem b428_94 (E : En_) : B_ E 428 94 = K428_94 E := rfl
theorem b428_95 (E : En_) : B_ E 428 95 = K428_95 E := rfl
theorem b428_96 (E : En_) : B_ E 428 96 = K428_96 E := rfl
theorem b428_97 (E : En_) : B_ E 428 97 = K428_97 E := rfl
theorem b428_98 (E : En_) : B_ E 428 98 = K428_98 E := rfl
theorem b428_99 (E : En_) : B_ E 428 99 = K428_99 E := rfl
theorem b428_100 (E : En_) : B_ E 428 100 = K428_100 E := rfl
theorem b428_101 (E : En_) : B_ E 428 101 = K428_101 E := rfl
theorem b428_102 (E : En_) : B_ E 428 102 = K428_102 E := rfl
theorem b428_103 (E : En_) : B_ E 428 103 = K428_103 E := rfl
theorem b428_104 (E : En_) : B_ E 428 104 = K428_104 E := rfl
theorem b428_105 (E : En_) : B_ E 428 105 = K428_105 E := rfl
theorem b428_106 (E : En_) : B_ E 428 106 = K428_106 E := rfl
theorem b428_107 (E : En_) : B_ E 428 107 = K428_107 E := rfl
theorem b428_108 (E : En_) : B_ E 428 108 = K428_108 E := rfl
theorem b428_109 (E : En_) : B_ E 428 109 = K428_109 E := rfl
theorem b428_110 (E : En_) : B_ E 428 110 = K428_110 E := rfl
theorem b428_111 (E : En_) : B_ E 428 111 = K428_111 E := rfl
theorem b428_112 (E : En_) : B_ E 428 112 = K428_112 E := rfl
theorem b428_113 (E : En_) : B_ E 428 113 = K428_113 E := rfl
theorem b428_114 (E : En_) : B_ E 428 114 = K428_114 E := rfl
theorem b428_115 (E : En_) : B_ E 428 115 = K428_115 E := rfl
theorem b428_116 (E : En_) : B_ E 428 116 = K428_116 E := rfl
theorem b428_117 (E : En_) : B_ E 428 117 = K428_117 E := rfl
theorem b428_118 (E : En_) : B_ E 428 118 = K428_118 E := rfl
theorem b428_119 (E : En_) : B_ E 428 119 = K428_119 E := rfl
theorem b428_120 (E : En_) : B_ E 428 120 = K428_120 E := rfl
theorem b428_121 (E : En_) : B_ E 428 121 = K428_121 E := rfl
theorem b428_122 (E : En_) : B_ E 428 122 = K428_122 E := rfl
theorem b428_123 (E : En_) : B_ E 428 123 = K428_123 E := rfl
theorem b428_124 (E : En_) : B_ E 428 124 = K428_124 E := rfl
theorem b428_125 (E : En_) : B_ E 428 125 = K428_125 E := rfl
theorem b428_126 (E : En_) : B_ E 428 126 = K428_126 E := rfl
theorem l428 : L_ 428 = 9 := rfl
theorem b1000_0 (E : En_) (j : Nat) (h : j < 100) : B_ E (1000 + j) 0 = K1000_0 E j := by
  unfold B_
  rw [if_neg (by omega), if_pos (by omega)]
  show K1000_0 E (1000 + j - 1000) = _
  rw [Nat.add_sub_cancel_left]
theorem b1000_1 (E : En_) (j : Nat) (h : j < 100) : B_ E (1000 + j) 1 = K1000_1 E j := by
  unfold B_
  rw [if_neg (by omega), if_pos (by omega)]
  show K1000_1 E (1000 + j - 1000) = _
  rw [Nat.add_sub_cancel_left]
theorem b1000_2 (E : En_) (j : Nat) (h : j < 100) : B_ E (1000 + j) 2 = K1000_2 E j := by
  unfold B_
  rw [if_neg (by omega), if_pos (by omega)]
  show K1000_2 E (1000 + j - 1000) = _
  rw [Nat.add_sub_cancel_left]
theorem b1000_3 (E : En_) (j : Nat) (h : j < 100) : B_ E (1000 + j) 3 = K1000_3 E j := by
  unfold B_
  rw [if_neg (by omega), if_pos (by omega)]
  show K1000_3 E (1000 + j - 1000) = _
  rw [Nat.add_sub_cancel_left]
theorem b1000_4 (E : En_) (j : Nat) (h : j < 100) : B_ E (1000 + j) 4 = K1000_4 E j := by
  unfold B_
  rw [if_neg (by omega), if_pos (by omega)]
  show K1000_4 E (1000 + j - 1000) = _
  rw [Nat.add_sub_cancel_left]
theorem l1000 (j : Nat) (h : j < 100) : L_ (1000 + j) = 5 := by
  unfold L_ MT_
  rw [if_neg (by omega), if_pos (by omega)]
  rfl
theorem b1100_0 (E : En_) (j : Nat) (h : j < 100) : B_ E (1100 + j) 0 = K1100_0 E j := by
  unfold B_
  rw [if_neg (by omega), if_neg (by omega), if_pos (by omega)]
  show K1100_0 E (1100 + j - 1100) = _
  rw [Nat.add_sub_cancel_left]
theorem b1100_1 (E : En_) (j : Nat) (h : j < 100) : B_ E (1100 + j) 1 = K1100_1 E j := by
  unfold B_
  rw [if_neg (by omega), if_neg (by omega), if_pos (by omega)]
  show K1100_1 E (1100 + j - 1100) = _
  rw [Nat.add_sub_cancel_left]
theorem l1100 (j : Nat) (h : j < 100) : L_ (1100 + j) = 2 := by
  unfold L_ MT_
  rw [if_neg (by omega), if_neg (by omega), if_pos (by omega)]
  rfl
theorem b1200_0 (E : En_) (j : Nat) (h : j < 100) : B_ E (1200 + j) 0 = K1200_0 E j := by
  unfold B_
  rw [if_neg (by omega), if_neg (by omega), if_neg (by omega)]
  show K1200_0 E (1200 + j - 1200) = _
  rw [Nat.add_sub_cancel_left]
theorem b1200_1 (E : En_) (j : Nat) (h : j < 100) : B_ E (1200 + j) 1 = K1200_1 E j := by
  unfold B_
  rw [if_neg (by omega), if_neg (by omega), if_neg (by omega)]
  show K1200_1 E (1200 + j - 1200) = _
  rw [Nat.add_sub_cancel_left]
theorem l1200 (j : Nat) (h : j < 100) : L_ (1200 + j) = 2 := by
  unfold L_ MT_
  rw [if_neg (by omega), if_neg (by omega), if_neg (by omega)]
  rfl
