theorem w_0 : Cond.initialized "SlottedMeshLaw" ∈ zTB := zin (List.mem_of_getElem? (i := 32) (by decide +kernel)) rfl
theorem w_1 : Cond.initialized "SlottedMesh" ∈ zTB := zin (List.mem_of_getElem? (i := 33) (by decide +kernel)) rfl
theorem w_2 : Cond.initialized "java/lang/Math" ∈ zTB := zin (List.mem_of_getElem? (i := 34) (by decide +kernel)) rfl
theorem w_3 : Cond.initialized "SlottedMesh$Node" ∈ zTB := zin (List.mem_of_getElem? (i := 35) (by decide +kernel)) rfl
theorem w_4 : Cond.initialized "SlottedMesh$Row" ∈ zTB := zin (List.mem_of_getElem? (i := 36) (by decide +kernel)) rfl
theorem w_5 : Cond.initialized "SlottedMesh$Cell" ∈ zTB := zin (List.mem_of_getElem? (i := 37) (by decide +kernel)) rfl
theorem w_6 : Cond.initialized "SlottedMesh$Advert" ∈ zTB := zin (List.mem_of_getElem? (i := 38) (by decide +kernel)) rfl
theorem w_7 : Cond.initialized "SlottedMesh$Link" ∈ zTB := zin (List.mem_of_getElem? (i := 39) (by decide +kernel)) rfl
theorem w_8 : Cond.initialized "SlottedMesh$Up" ∈ zTB := zin (List.mem_of_getElem? (i := 40) (by decide +kernel)) rfl
theorem w_9 : Cond.initialized "SlottedMesh$Down" ∈ zTB := zin (List.mem_of_getElem? (i := 41) (by decide +kernel)) rfl
theorem w_10 : Cond.initialized "SlottedMeshModel" ∈ zTB := zin (List.mem_of_getElem? (i := 42) (by decide +kernel)) rfl
theorem w_11 : Cond.initialized "java/lang/Integer" ∈ zTB := zin (List.mem_of_getElem? (i := 43) (by decide +kernel)) rfl
theorem w_12 : Cond.initialized "SlottedMesh$Frame" ∈ zTB := zin (List.mem_of_getElem? (i := 44) (by decide +kernel)) rfl
theorem w_13 : Cond.classLink "SlottedMeshLaw" (7) "SlottedMesh" ∈ zTB := zin (List.mem_of_getElem? (i := 45) (by decide +kernel)) rfl
theorem w_14 : Cond.instantiable "SlottedMesh" (28) ∈ zTB := zin (List.mem_of_getElem? (i := 46) (by decide +kernel)) rfl
theorem w_15 : Cond.methodLink "SlottedMeshLaw" (15) ⟨"SlottedMesh", "<init>", "(III)V"⟩ ∈ zTB := zin (List.mem_of_getElem? (i := 47) (by decide +kernel)) rfl
theorem w_16 : Cond.instanceMethod ⟨"SlottedMesh", "<init>", "(III)V"⟩ ∈ zTB := zin (List.mem_of_getElem? (i := 48) (by decide +kernel)) rfl
theorem w_17 : Cond.code ⟨"SlottedMesh", "<init>", "(III)V"⟩ prog_1_method_1_code (5) none ∈ zTB := zin (List.mem_of_getElem? (i := 49) (by decide +kernel)) rfl
theorem w_18 : Cond.methodLink "SlottedMesh" (1) ⟨"java/lang/Object", "<init>", "()V"⟩ ∈ zTB := zin (List.mem_of_getElem? (i := 50) (by decide +kernel)) rfl
theorem w_19 : Cond.instanceMethod ⟨"java/lang/Object", "<init>", "()V"⟩ ∈ zTB := zin (List.mem_of_getElem? (i := 51) (by decide +kernel)) rfl
theorem w_20 : Cond.code ⟨"java/lang/Object", "<init>", "()V"⟩ object_method_1_code (1) none ∈ zTB := zin (List.mem_of_getElem? (i := 52) (by decide +kernel)) rfl
theorem w_21 : Cond.classLink "SlottedMesh" (7) "SlottedMesh$Node" ∈ zTB := zin (List.mem_of_getElem? (i := 53) (by decide +kernel)) rfl
theorem v_22 : Cond.arrayOver (.object "SlottedMesh$Node") ∈ lw_tbl := List.mem_of_getElem? (i := 54) (by decide +kernel)
theorem w_23 : Cond.classLink "SlottedMesh" (15) "[[Z" ∈ zTB := zin (List.mem_of_getElem? (i := 55) (by decide +kernel)) rfl
theorem v_24 : Cond.arrayOver (.array .boolean) ∈ lw_tbl := List.mem_of_getElem? (i := 56) (by decide +kernel)
theorem w_25 : Cond.constantLong "SlottedMesh" (20) (-1 : Int64) ∈ zTB := zin (List.mem_of_getElem? (i := 57) (by decide +kernel)) rfl
theorem w_26 : Cond.classLink "SlottedMesh" (29) "SlottedMesh$Cell" ∈ zTB := zin (List.mem_of_getElem? (i := 58) (by decide +kernel)) rfl
theorem v_27 : Cond.arrayOver (.object "SlottedMesh$Cell") ∈ lw_tbl := List.mem_of_getElem? (i := 59) (by decide +kernel)
theorem w_28 : Cond.classLink "SlottedMesh" (35) "SlottedMesh$Advert" ∈ zTB := zin (List.mem_of_getElem? (i := 60) (by decide +kernel)) rfl
theorem v_29 : Cond.arrayOver (.object "SlottedMesh$Advert") ∈ lw_tbl := List.mem_of_getElem? (i := 61) (by decide +kernel)
theorem w_30 : Cond.classLink "SlottedMesh" (41) "SlottedMesh$Up" ∈ zTB := zin (List.mem_of_getElem? (i := 62) (by decide +kernel)) rfl
theorem v_31 : Cond.arrayOver (.object "SlottedMesh$Up") ∈ lw_tbl := List.mem_of_getElem? (i := 63) (by decide +kernel)
theorem w_32 : Cond.classLink "SlottedMesh" (47) "SlottedMesh$Down" ∈ zTB := zin (List.mem_of_getElem? (i := 64) (by decide +kernel)) rfl
theorem v_33 : Cond.arrayOver (.object "SlottedMesh$Down") ∈ lw_tbl := List.mem_of_getElem? (i := 65) (by decide +kernel)
theorem w_34 : Cond.classLink "SlottedMesh" (75) "[[I" ∈ zTB := zin (List.mem_of_getElem? (i := 66) (by decide +kernel)) rfl
theorem v_35 : Cond.arrayOver (.array .int) ∈ lw_tbl := List.mem_of_getElem? (i := 67) (by decide +kernel)
theorem w_36 : Cond.methodLink "SlottedMesh" (95) ⟨"java/lang/Math", "min", "(II)I"⟩ ∈ zTB := zin (List.mem_of_getElem? (i := 68) (by decide +kernel)) rfl
theorem w_37 : Cond.static ⟨"java/lang/Math", "min", "(II)I"⟩ ∈ zTB := zin (List.mem_of_getElem? (i := 69) (by decide +kernel)) rfl
theorem w_38 : Cond.code ⟨"java/lang/Math", "min", "(II)I"⟩ prog_13_method_69_code (2) (some .int) ∈ zTB := zin (List.mem_of_getElem? (i := 70) (by decide +kernel)) rfl
theorem w_39 : Cond.methodLink "SlottedMesh" (101) ⟨"java/lang/Math", "max", "(II)I"⟩ ∈ zTB := zin (List.mem_of_getElem? (i := 71) (by decide +kernel)) rfl
theorem w_40 : Cond.static ⟨"java/lang/Math", "max", "(II)I"⟩ ∈ zTB := zin (List.mem_of_getElem? (i := 72) (by decide +kernel)) rfl
theorem w_41 : Cond.code ⟨"java/lang/Math", "max", "(II)I"⟩ prog_13_method_65_code (2) (some .int) ∈ zTB := zin (List.mem_of_getElem? (i := 73) (by decide +kernel)) rfl
theorem w_42 : Cond.instantiable "SlottedMesh$Node" (16) ∈ zTB := zin (List.mem_of_getElem? (i := 74) (by decide +kernel)) rfl
theorem w_43 : Cond.methodLink "SlottedMesh" (114) ⟨"SlottedMesh$Node", "<init>", "(I)V"⟩ ∈ zTB := zin (List.mem_of_getElem? (i := 75) (by decide +kernel)) rfl
theorem w_44 : Cond.instanceMethod ⟨"SlottedMesh$Node", "<init>", "(I)V"⟩ ∈ zTB := zin (List.mem_of_getElem? (i := 76) (by decide +kernel)) rfl
theorem w_45 : Cond.code ⟨"SlottedMesh$Node", "<init>", "(I)V"⟩ prog_7_method_1_code (2) none ∈ zTB := zin (List.mem_of_getElem? (i := 77) (by decide +kernel)) rfl
theorem w_46 : Cond.methodLink "SlottedMesh$Node" (3) ⟨"java/lang/Object", "<init>", "()V"⟩ ∈ zTB := zin (List.mem_of_getElem? (i := 78) (by decide +kernel)) rfl
theorem w_47 : Cond.classLink "SlottedMesh$Node" (9) "SlottedMesh$Row" ∈ zTB := zin (List.mem_of_getElem? (i := 79) (by decide +kernel)) rfl
theorem w_48 : Cond.instantiable "SlottedMesh$Row" (3) ∈ zTB := zin (List.mem_of_getElem? (i := 80) (by decide +kernel)) rfl
theorem v_49 : Cond.methodLinkNest "SlottedMesh$Node" (11) ⟨"SlottedMesh$Row", "<init>", "()V"⟩ "SlottedMesh" ∈ lw_tbl := List.mem_of_getElem? (i := 81) (by decide +kernel)
theorem w_50 : Cond.instanceMethod ⟨"SlottedMesh$Row", "<init>", "()V"⟩ ∈ zTB := zin (List.mem_of_getElem? (i := 82) (by decide +kernel)) rfl
theorem w_51 : Cond.code ⟨"SlottedMesh$Row", "<init>", "()V"⟩ prog_8_method_1_code (1) none ∈ zTB := zin (List.mem_of_getElem? (i := 83) (by decide +kernel)) rfl
theorem w_52 : Cond.methodLink "SlottedMesh$Row" (1) ⟨"java/lang/Object", "<init>", "()V"⟩ ∈ zTB := zin (List.mem_of_getElem? (i := 84) (by decide +kernel)) rfl
theorem w_53 : Cond.fieldLink "SlottedMesh$Row" (13) "SlottedMesh$Row" "first" "LSlottedMesh$Frame;" ∈ zTB := zin (List.mem_of_getElem? (i := 85) (by decide +kernel)) rfl
theorem v_54 : Cond.fieldLinkNest "SlottedMesh$Down" (28) "SlottedMesh$Row" "first" "LSlottedMesh$Frame;" "SlottedMesh" ∈ lw_tbl := List.mem_of_getElem? (i := 86) (by decide +kernel)
theorem v_55 : Cond.fieldLinkNest "SlottedMesh$Up" (28) "SlottedMesh$Row" "first" "LSlottedMesh$Frame;" "SlottedMesh" ∈ lw_tbl := List.mem_of_getElem? (i := 87) (by decide +kernel)
theorem w_56 : Cond.fieldLink "SlottedMesh$Row" (7) "SlottedMesh$Row" "last" "LSlottedMesh$Frame;" ∈ zTB := zin (List.mem_of_getElem? (i := 88) (by decide +kernel)) rfl
theorem w_57 : Cond.fieldLink "SlottedMesh$Row" (21) "SlottedMesh$Row" "size" "I" ∈ zTB := zin (List.mem_of_getElem? (i := 89) (by decide +kernel)) rfl
theorem v_58 : Cond.fieldLinkNest "SlottedMesh$Up" (46) "SlottedMesh$Row" "size" "I" "SlottedMesh" ∈ lw_tbl := List.mem_of_getElem? (i := 90) (by decide +kernel)
theorem v_59 : Cond.fieldLinkNest "SlottedMesh$Down" (57) "SlottedMesh$Row" "size" "I" "SlottedMesh" ∈ lw_tbl := List.mem_of_getElem? (i := 91) (by decide +kernel)
theorem v_60 : Cond.fieldLinkNest "SlottedMesh" (149) "SlottedMesh$Row" "size" "I" "SlottedMesh" ∈ lw_tbl := List.mem_of_getElem? (i := 92) (by decide +kernel)
theorem w_68 : Cond.arrayClass .boolean ∈ zTB := zin (List.mem_of_getElem? (i := 100) (by decide +kernel)) rfl
theorem w_69 : Cond.arrayClass .long ∈ zTB := zin (List.mem_of_getElem? (i := 101) (by decide +kernel)) rfl
theorem w_70 : Cond.arrayClass .int ∈ zTB := zin (List.mem_of_getElem? (i := 102) (by decide +kernel)) rfl
theorem w_71 : Cond.fieldLink "SlottedMesh$Node" (32) "SlottedMesh$Node" "id" "I" ∈ zTB := zin (List.mem_of_getElem? (i := 103) (by decide +kernel)) rfl
theorem v_72 : Cond.fieldLinkNest "SlottedMesh$Advert" (13) "SlottedMesh$Node" "id" "I" "SlottedMesh" ∈ lw_tbl := List.mem_of_getElem? (i := 104) (by decide +kernel)
theorem v_73 : Cond.fieldLinkNest "SlottedMesh$Down" (15) "SlottedMesh$Node" "id" "I" "SlottedMesh" ∈ lw_tbl := List.mem_of_getElem? (i := 105) (by decide +kernel)
theorem v_74 : Cond.fieldLinkNest "SlottedMesh$Up" (15) "SlottedMesh$Node" "id" "I" "SlottedMesh" ∈ lw_tbl := List.mem_of_getElem? (i := 106) (by decide +kernel)
theorem v_75 : Cond.fieldLinkNest "SlottedMesh$Link" (36) "SlottedMesh$Node" "id" "I" "SlottedMesh" ∈ lw_tbl := List.mem_of_getElem? (i := 107) (by decide +kernel)
theorem v_76 : Cond.fieldLinkNest "SlottedMesh" (284) "SlottedMesh$Node" "id" "I" "SlottedMesh" ∈ lw_tbl := List.mem_of_getElem? (i := 108) (by decide +kernel)
theorem v_77 : Cond.fieldLinkNest "SlottedMesh" (120) "SlottedMesh$Node" "started" "Z" "SlottedMesh" ∈ lw_tbl := List.mem_of_getElem? (i := 109) (by decide +kernel)
theorem v_78 : Cond.fieldLinkNest "SlottedMesh$Advert" (44) "SlottedMesh$Node" "started" "Z" "SlottedMesh" ∈ lw_tbl := List.mem_of_getElem? (i := 110) (by decide +kernel)
theorem v_79 : Cond.fieldLinkNest "SlottedMesh" (124) "SlottedMesh$Node" "current" "Z" "SlottedMesh" ∈ lw_tbl := List.mem_of_getElem? (i := 111) (by decide +kernel)
theorem v_80 : Cond.fieldLinkNest "SlottedMesh$Advert" (19) "SlottedMesh$Node" "current" "Z" "SlottedMesh" ∈ lw_tbl := List.mem_of_getElem? (i := 112) (by decide +kernel)
theorem v_81 : Cond.fieldLinkNest "SlottedMesh$Link" (13) "SlottedMesh$Node" "current" "Z" "SlottedMesh" ∈ lw_tbl := List.mem_of_getElem? (i := 113) (by decide +kernel)
theorem v_82 : Cond.fieldLinkNest "SlottedMesh$Up" (78) "SlottedMesh$Node" "current" "Z" "SlottedMesh" ∈ lw_tbl := List.mem_of_getElem? (i := 114) (by decide +kernel)
theorem w_83 : Cond.fieldLink "SlottedMesh$Node" (35) "SlottedMesh$Node" "offset" "I" ∈ zTB := zin (List.mem_of_getElem? (i := 115) (by decide +kernel)) rfl
theorem v_84 : Cond.fieldLinkNest "SlottedMesh$Advert" (54) "SlottedMesh$Node" "offset" "I" "SlottedMesh" ∈ lw_tbl := List.mem_of_getElem? (i := 116) (by decide +kernel)
theorem v_85 : Cond.fieldLinkNest "SlottedMesh$Down" (47) "SlottedMesh$Node" "offset" "I" "SlottedMesh" ∈ lw_tbl := List.mem_of_getElem? (i := 117) (by decide +kernel)
theorem v_86 : Cond.fieldLinkNest "SlottedMesh$Up" (75) "SlottedMesh$Node" "offset" "I" "SlottedMesh" ∈ lw_tbl := List.mem_of_getElem? (i := 118) (by decide +kernel)
theorem v_87 : Cond.fieldLinkNest "SlottedMesh" (248) "SlottedMesh$Node" "offset" "I" "SlottedMesh" ∈ lw_tbl := List.mem_of_getElem? (i := 119) (by decide +kernel)
theorem v_88 : Cond.fieldLinkNest "SlottedMesh" (260) "SlottedMesh$Node" "drift" "I" "SlottedMesh" ∈ lw_tbl := List.mem_of_getElem? (i := 120) (by decide +kernel)
theorem v_89 : Cond.fieldLinkNest "SlottedMesh$Advert" (57) "SlottedMesh$Node" "fails" "I" "SlottedMesh" ∈ lw_tbl := List.mem_of_getElem? (i := 121) (by decide +kernel)
theorem v_90 : Cond.fieldLinkNest "SlottedMesh$Up" (70) "SlottedMesh$Node" "fails" "I" "SlottedMesh" ∈ lw_tbl := List.mem_of_getElem? (i := 122) (by decide +kernel)
theorem v_91 : Cond.fieldLinkNest "SlottedMesh" (215) "SlottedMesh$Node" "fails" "I" "SlottedMesh" ∈ lw_tbl := List.mem_of_getElem? (i := 123) (by decide +kernel)
theorem v_92 : Cond.fieldLinkNest "SlottedMesh$Down" (81) "SlottedMesh$Node" "tries" "I" "SlottedMesh" ∈ lw_tbl := List.mem_of_getElem? (i := 124) (by decide +kernel)
theorem v_93 : Cond.fieldLinkNest "SlottedMesh" (218) "SlottedMesh$Node" "tries" "I" "SlottedMesh" ∈ lw_tbl := List.mem_of_getElem? (i := 125) (by decide +kernel)
theorem v_94 : Cond.fieldLinkNest "SlottedMesh" (267) "SlottedMesh$Node" "numbers" "I" "SlottedMesh" ∈ lw_tbl := List.mem_of_getElem? (i := 126) (by decide +kernel)
theorem v_95 : Cond.fieldLinkNest "SlottedMesh$Down" (63) "SlottedMesh$Node" "actuator" "I" "SlottedMesh" ∈ lw_tbl := List.mem_of_getElem? (i := 127) (by decide +kernel)
theorem v_96 : Cond.fieldLinkNest "SlottedMesh" (291) "SlottedMesh$Node" "actuator" "I" "SlottedMesh" ∈ lw_tbl := List.mem_of_getElem? (i := 128) (by decide +kernel)
theorem w_97 : Cond.fieldLink "SlottedMesh$Node" (12) "SlottedMesh$Node" "up" "LSlottedMesh$Row;" ∈ zTB := zin (List.mem_of_getElem? (i := 129) (by decide +kernel)) rfl
theorem v_98 : Cond.fieldLinkNest "SlottedMesh$Up" (24) "SlottedMesh$Node" "up" "LSlottedMesh$Row;" "SlottedMesh" ∈ lw_tbl := List.mem_of_getElem? (i := 130) (by decide +kernel)
theorem v_99 : Cond.fieldLinkNest "SlottedMesh" (251) "SlottedMesh$Node" "up" "LSlottedMesh$Row;" "SlottedMesh" ∈ lw_tbl := List.mem_of_getElem? (i := 131) (by decide +kernel)
theorem w_100 : Cond.fieldLink "SlottedMesh$Node" (18) "SlottedMesh$Node" "down" "LSlottedMesh$Row;" ∈ zTB := zin (List.mem_of_getElem? (i := 132) (by decide +kernel)) rfl
theorem v_101 : Cond.fieldLinkNest "SlottedMesh$Down" (24) "SlottedMesh$Node" "down" "LSlottedMesh$Row;" "SlottedMesh" ∈ lw_tbl := List.mem_of_getElem? (i := 133) (by decide +kernel)
theorem v_102 : Cond.fieldLinkNest "SlottedMesh" (221) "SlottedMesh$Node" "down" "LSlottedMesh$Row;" "SlottedMesh" ∈ lw_tbl := List.mem_of_getElem? (i := 134) (by decide +kernel)
theorem w_103 : Cond.fieldLink "SlottedMesh$Node" (21) "SlottedMesh$Node" "tookUp" "[I" ∈ zTB := zin (List.mem_of_getElem? (i := 135) (by decide +kernel)) rfl
theorem v_104 : Cond.fieldLinkNest "SlottedMesh$Up" (39) "SlottedMesh$Node" "tookUp" "[I" "SlottedMesh" ∈ lw_tbl := List.mem_of_getElem? (i := 136) (by decide +kernel)
theorem v_105 : Cond.fieldLinkNest "SlottedMesh" (254) "SlottedMesh$Node" "tookUp" "[I" "SlottedMesh" ∈ lw_tbl := List.mem_of_getElem? (i := 137) (by decide +kernel)
theorem w_106 : Cond.fieldLink "SlottedMesh$Node" (25) "SlottedMesh$Node" "tookDown" "[I" ∈ zTB := zin (List.mem_of_getElem? (i := 138) (by decide +kernel)) rfl
theorem v_107 : Cond.fieldLinkNest "SlottedMesh$Down" (53) "SlottedMesh$Node" "tookDown" "[I" "SlottedMesh" ∈ lw_tbl := List.mem_of_getElem? (i := 139) (by decide +kernel)
theorem v_108 : Cond.fieldLinkNest "SlottedMesh" (257) "SlottedMesh$Node" "tookDown" "[I" "SlottedMesh" ∈ lw_tbl := List.mem_of_getElem? (i := 140) (by decide +kernel)
theorem w_109 : Cond.fieldLink "SlottedMesh$Node" (28) "SlottedMesh$Node" "rank" "I" ∈ zTB := zin (List.mem_of_getElem? (i := 141) (by decide +kernel)) rfl
theorem v_110 : Cond.fieldLinkNest "SlottedMesh" (206) "SlottedMesh$Node" "rank" "I" "SlottedMesh" ∈ lw_tbl := List.mem_of_getElem? (i := 142) (by decide +kernel)
theorem w_111 : Cond.fieldLink "SlottedMesh$Node" (38) "SlottedMesh$Node" "first" "LSlottedMesh$Node;" ∈ zTB := zin (List.mem_of_getElem? (i := 143) (by decide +kernel)) rfl
theorem v_112 : Cond.fieldLinkNest "SlottedMesh$Advert" (47) "SlottedMesh$Node" "first" "LSlottedMesh$Node;" "SlottedMesh" ∈ lw_tbl := List.mem_of_getElem? (i := 144) (by decide +kernel)
theorem v_113 : Cond.fieldLinkNest "SlottedMesh$Up" (73) "SlottedMesh$Node" "first" "LSlottedMesh$Node;" "SlottedMesh" ∈ lw_tbl := List.mem_of_getElem? (i := 145) (by decide +kernel)
theorem v_114 : Cond.fieldLinkNest "SlottedMesh" (209) "SlottedMesh$Node" "first" "LSlottedMesh$Node;" "SlottedMesh" ∈ lw_tbl := List.mem_of_getElem? (i := 146) (by decide +kernel)
theorem v_115 : Cond.fieldLinkNest "SlottedMesh" (212) "SlottedMesh$Node" "second" "LSlottedMesh$Node;" "SlottedMesh" ∈ lw_tbl := List.mem_of_getElem? (i := 147) (by decide +kernel)
theorem w_149 : Cond.instantiable "SlottedMesh$Advert" (3) ∈ zTB := zin (List.mem_of_getElem? (i := 181) (by decide +kernel)) rfl
theorem v_150 : Cond.methodLinkNest "SlottedMesh" (117) ⟨"SlottedMesh$Advert", "<init>", "()V"⟩ "SlottedMesh" ∈ lw_tbl := List.mem_of_getElem? (i := 182) (by decide +kernel)
theorem w_151 : Cond.instanceMethod ⟨"SlottedMesh$Advert", "<init>", "()V"⟩ ∈ zTB := zin (List.mem_of_getElem? (i := 183) (by decide +kernel)) rfl
theorem w_152 : Cond.code ⟨"SlottedMesh$Advert", "<init>", "()V"⟩ prog_2_method_1_code (1) none ∈ zTB := zin (List.mem_of_getElem? (i := 184) (by decide +kernel)) rfl
theorem v_153 : Cond.methodLinkNest "SlottedMesh$Advert" (1) ⟨"SlottedMesh$Cell", "<init>", "()V"⟩ "SlottedMesh" ∈ lw_tbl := List.mem_of_getElem? (i := 185) (by decide +kernel)
theorem w_154 : Cond.instanceMethod ⟨"SlottedMesh$Cell", "<init>", "()V"⟩ ∈ zTB := zin (List.mem_of_getElem? (i := 186) (by decide +kernel)) rfl
theorem w_155 : Cond.code ⟨"SlottedMesh$Cell", "<init>", "()V"⟩ prog_3_method_1_code (1) none ∈ zTB := zin (List.mem_of_getElem? (i := 187) (by decide +kernel)) rfl
theorem w_156 : Cond.methodLink "SlottedMesh$Cell" (1) ⟨"java/lang/Object", "<init>", "()V"⟩ ∈ zTB := zin (List.mem_of_getElem? (i := 188) (by decide +kernel)) rfl
theorem w_157 : Cond.fieldLink "SlottedMesh$Advert" (7) "SlottedMesh$Advert" "from" "LSlottedMesh$Node;" ∈ zTB := zin (List.mem_of_getElem? (i := 189) (by decide +kernel)) rfl
theorem w_158 : Cond.sameField "SlottedMesh$Advert" "SlottedMesh$Cell" "from" "LSlottedMesh$Node;" ∈ zTB := zin (List.mem_of_getElem? (i := 190) (by decide +kernel)) rfl
theorem w_159 : Cond.fieldLink "SlottedMesh$Down" (9) "SlottedMesh$Down" "from" "LSlottedMesh$Node;" ∈ zTB := zin (List.mem_of_getElem? (i := 191) (by decide +kernel)) rfl
theorem w_160 : Cond.sameField "SlottedMesh$Down" "SlottedMesh$Cell" "from" "LSlottedMesh$Node;" ∈ zTB := zin (List.mem_of_getElem? (i := 192) (by decide +kernel)) rfl
theorem w_161 : Cond.fieldLink "SlottedMesh$Up" (9) "SlottedMesh$Up" "from" "LSlottedMesh$Node;" ∈ zTB := zin (List.mem_of_getElem? (i := 193) (by decide +kernel)) rfl
theorem w_162 : Cond.sameField "SlottedMesh$Up" "SlottedMesh$Cell" "from" "LSlottedMesh$Node;" ∈ zTB := zin (List.mem_of_getElem? (i := 194) (by decide +kernel)) rfl
theorem w_163 : Cond.fieldLink "SlottedMesh$Link" (7) "SlottedMesh$Link" "from" "LSlottedMesh$Node;" ∈ zTB := zin (List.mem_of_getElem? (i := 195) (by decide +kernel)) rfl
theorem w_164 : Cond.sameField "SlottedMesh$Link" "SlottedMesh$Cell" "from" "LSlottedMesh$Node;" ∈ zTB := zin (List.mem_of_getElem? (i := 196) (by decide +kernel)) rfl
theorem w_165 : Cond.fieldLink "SlottedMesh" (187) "SlottedMesh$Cell" "from" "LSlottedMesh$Node;" ∈ zTB := zin (List.mem_of_getElem? (i := 197) (by decide +kernel)) rfl
theorem w_166 : Cond.fieldLink "SlottedMesh$Link" (47) "SlottedMesh$Link" "channel" "I" ∈ zTB := zin (List.mem_of_getElem? (i := 198) (by decide +kernel)) rfl
theorem w_167 : Cond.sameField "SlottedMesh$Link" "SlottedMesh$Cell" "channel" "I" ∈ zTB := zin (List.mem_of_getElem? (i := 199) (by decide +kernel)) rfl
theorem w_168 : Cond.fieldLink "SlottedMesh" (191) "SlottedMesh$Cell" "channel" "I" ∈ zTB := zin (List.mem_of_getElem? (i := 200) (by decide +kernel)) rfl
theorem w_169 : Cond.fieldLink "SlottedMesh" (194) "SlottedMesh$Cell" "next" "LSlottedMesh$Cell;" ∈ zTB := zin (List.mem_of_getElem? (i := 201) (by decide +kernel)) rfl
theorem w_177 : Cond.instantiable "SlottedMesh$Up" (4) ∈ zTB := zin (List.mem_of_getElem? (i := 209) (by decide +kernel)) rfl
theorem v_178 : Cond.methodLinkNest "SlottedMesh" (118) ⟨"SlottedMesh$Up", "<init>", "()V"⟩ "SlottedMesh" ∈ lw_tbl := List.mem_of_getElem? (i := 210) (by decide +kernel)
theorem w_179 : Cond.instanceMethod ⟨"SlottedMesh$Up", "<init>", "()V"⟩ ∈ zTB := zin (List.mem_of_getElem? (i := 211) (by decide +kernel)) rfl
theorem w_180 : Cond.code ⟨"SlottedMesh$Up", "<init>", "()V"⟩ prog_9_method_1_code (1) none ∈ zTB := zin (List.mem_of_getElem? (i := 212) (by decide +kernel)) rfl
theorem v_181 : Cond.methodLinkNest "SlottedMesh$Up" (3) ⟨"SlottedMesh$Link", "<init>", "()V"⟩ "SlottedMesh" ∈ lw_tbl := List.mem_of_getElem? (i := 213) (by decide +kernel)
theorem w_182 : Cond.instanceMethod ⟨"SlottedMesh$Link", "<init>", "()V"⟩ ∈ zTB := zin (List.mem_of_getElem? (i := 214) (by decide +kernel)) rfl
theorem w_183 : Cond.code ⟨"SlottedMesh$Link", "<init>", "()V"⟩ prog_6_method_1_code (1) none ∈ zTB := zin (List.mem_of_getElem? (i := 215) (by decide +kernel)) rfl
theorem v_184 : Cond.methodLinkNest "SlottedMesh$Link" (1) ⟨"SlottedMesh$Cell", "<init>", "()V"⟩ "SlottedMesh" ∈ lw_tbl := List.mem_of_getElem? (i := 216) (by decide +kernel)
theorem w_185 : Cond.fieldLink "SlottedMesh$Down" (21) "SlottedMesh$Down" "to" "LSlottedMesh$Node;" ∈ zTB := zin (List.mem_of_getElem? (i := 217) (by decide +kernel)) rfl
theorem w_186 : Cond.sameField "SlottedMesh$Down" "SlottedMesh$Link" "to" "LSlottedMesh$Node;" ∈ zTB := zin (List.mem_of_getElem? (i := 218) (by decide +kernel)) rfl
theorem w_187 : Cond.fieldLink "SlottedMesh$Up" (21) "SlottedMesh$Up" "to" "LSlottedMesh$Node;" ∈ zTB := zin (List.mem_of_getElem? (i := 219) (by decide +kernel)) rfl
theorem w_188 : Cond.sameField "SlottedMesh$Up" "SlottedMesh$Link" "to" "LSlottedMesh$Node;" ∈ zTB := zin (List.mem_of_getElem? (i := 220) (by decide +kernel)) rfl
theorem w_189 : Cond.fieldLink "SlottedMesh$Link" (29) "SlottedMesh$Link" "to" "LSlottedMesh$Node;" ∈ zTB := zin (List.mem_of_getElem? (i := 221) (by decide +kernel)) rfl
theorem w_190 : Cond.fieldLink "SlottedMesh" (197) "SlottedMesh$Link" "to" "LSlottedMesh$Node;" ∈ zTB := zin (List.mem_of_getElem? (i := 222) (by decide +kernel)) rfl
theorem w_197 : Cond.instantiable "SlottedMesh$Down" (4) ∈ zTB := zin (List.mem_of_getElem? (i := 229) (by decide +kernel)) rfl
theorem v_198 : Cond.methodLinkNest "SlottedMesh" (119) ⟨"SlottedMesh$Down", "<init>", "()V"⟩ "SlottedMesh" ∈ lw_tbl := List.mem_of_getElem? (i := 230) (by decide +kernel)
theorem w_199 : Cond.instanceMethod ⟨"SlottedMesh$Down", "<init>", "()V"⟩ ∈ zTB := zin (List.mem_of_getElem? (i := 231) (by decide +kernel)) rfl
theorem w_200 : Cond.code ⟨"SlottedMesh$Down", "<init>", "()V"⟩ prog_4_method_1_code (1) none ∈ zTB := zin (List.mem_of_getElem? (i := 232) (by decide +kernel)) rfl
theorem v_201 : Cond.methodLinkNest "SlottedMesh$Down" (3) ⟨"SlottedMesh$Link", "<init>", "()V"⟩ "SlottedMesh" ∈ lw_tbl := List.mem_of_getElem? (i := 233) (by decide +kernel)
theorem w_207 : Cond.fieldLink "SlottedMesh" (104) "SlottedMesh" "count" "I" ∈ zTB := zin (List.mem_of_getElem? (i := 239) (by decide +kernel)) rfl
theorem v_208 : Cond.fieldLinkNest "SlottedMesh$Advert" (33) "SlottedMesh" "count" "I" "SlottedMesh" ∈ lw_tbl := List.mem_of_getElem? (i := 240) (by decide +kernel)
theorem w_209 : Cond.fieldLink "SlottedMesh" (108) "SlottedMesh" "slots" "I" ∈ zTB := zin (List.mem_of_getElem? (i := 241) (by decide +kernel)) rfl
theorem w_210 : Cond.fieldLink "SlottedMesh" (111) "SlottedMesh" "channels" "I" ∈ zTB := zin (List.mem_of_getElem? (i := 242) (by decide +kernel)) rfl
theorem w_211 : Cond.fieldLink "SlottedMesh" (9) "SlottedMesh" "nodes" "[LSlottedMesh$Node;" ∈ zTB := zin (List.mem_of_getElem? (i := 243) (by decide +kernel)) rfl
theorem v_212 : Cond.fieldLinkNest "SlottedMesh$Down" (34) "SlottedMesh" "nodes" "[LSlottedMesh$Node;" "SlottedMesh" ∈ lw_tbl := List.mem_of_getElem? (i := 244) (by decide +kernel)
theorem v_213 : Cond.fieldLinkNest "SlottedMesh$Advert" (36) "SlottedMesh" "nodes" "[LSlottedMesh$Node;" "SlottedMesh" ∈ lw_tbl := List.mem_of_getElem? (i := 245) (by decide +kernel)
theorem w_214 : Cond.fieldLink "SlottedMesh" (17) "SlottedMesh" "near" "[[Z" ∈ zTB := zin (List.mem_of_getElem? (i := 246) (by decide +kernel)) rfl
theorem v_215 : Cond.fieldLinkNest "SlottedMesh$Advert" (40) "SlottedMesh" "near" "[[Z" "SlottedMesh" ∈ lw_tbl := List.mem_of_getElem? (i := 247) (by decide +kernel)
theorem v_216 : Cond.fieldLinkNest "SlottedMesh$Link" (32) "SlottedMesh" "near" "[[Z" "SlottedMesh" ∈ lw_tbl := List.mem_of_getElem? (i := 248) (by decide +kernel)
theorem w_217 : Cond.fieldLink "SlottedMesh" (22) "SlottedMesh" "frames" "[J" ∈ zTB := zin (List.mem_of_getElem? (i := 249) (by decide +kernel)) rfl
theorem v_218 : Cond.fieldLinkNest "SlottedMesh$Advert" (23) "SlottedMesh" "frames" "[J" "SlottedMesh" ∈ lw_tbl := List.mem_of_getElem? (i := 250) (by decide +kernel)
theorem v_219 : Cond.fieldLinkNest "SlottedMesh$Link" (43) "SlottedMesh" "frames" "[J" "SlottedMesh" ∈ lw_tbl := List.mem_of_getElem? (i := 251) (by decide +kernel)
theorem w_220 : Cond.fieldLink "SlottedMesh" (26) "SlottedMesh" "confirmations" "[J" ∈ zTB := zin (List.mem_of_getElem? (i := 252) (by decide +kernel)) rfl
theorem v_221 : Cond.fieldLinkNest "SlottedMesh$Link" (58) "SlottedMesh" "confirmations" "[J" "SlottedMesh" ∈ lw_tbl := List.mem_of_getElem? (i := 253) (by decide +kernel)
theorem w_222 : Cond.fieldLink "SlottedMesh" (127) "SlottedMesh" "time" "I" ∈ zTB := zin (List.mem_of_getElem? (i := 254) (by decide +kernel)) rfl
theorem v_223 : Cond.fieldLinkNest "SlottedMesh$Link" (23) "SlottedMesh" "sends" "I" "SlottedMesh" ∈ lw_tbl := List.mem_of_getElem? (i := 255) (by decide +kernel)
theorem w_224 : Cond.fieldLink "SlottedMesh" (294) "SlottedMesh" "sends" "I" ∈ zTB := zin (List.mem_of_getElem? (i := 256) (by decide +kernel)) rfl
theorem w_225 : Cond.fieldLink "SlottedMesh" (130) "SlottedMesh" "spare" "LSlottedMesh$Frame;" ∈ zTB := zin (List.mem_of_getElem? (i := 257) (by decide +kernel)) rfl
theorem w_226 : Cond.fieldLink "SlottedMesh" (31) "SlottedMesh" "slot" "[LSlottedMesh$Cell;" ∈ zTB := zin (List.mem_of_getElem? (i := 258) (by decide +kernel)) rfl
theorem w_227 : Cond.fieldLink "SlottedMesh" (37) "SlottedMesh" "adverts" "[LSlottedMesh$Advert;" ∈ zTB := zin (List.mem_of_getElem? (i := 259) (by decide +kernel)) rfl
theorem w_228 : Cond.fieldLink "SlottedMesh" (43) "SlottedMesh" "ups" "[LSlottedMesh$Up;" ∈ zTB := zin (List.mem_of_getElem? (i := 260) (by decide +kernel)) rfl
theorem w_229 : Cond.fieldLink "SlottedMesh" (49) "SlottedMesh" "downs" "[LSlottedMesh$Down;" ∈ zTB := zin (List.mem_of_getElem? (i := 261) (by decide +kernel)) rfl
theorem w_230 : Cond.fieldLink "SlottedMesh" (53) "SlottedMesh" "ranks" "[I" ∈ zTB := zin (List.mem_of_getElem? (i := 262) (by decide +kernel)) rfl
theorem w_231 : Cond.fieldLink "SlottedMesh" (57) "SlottedMesh" "firsts" "[I" ∈ zTB := zin (List.mem_of_getElem? (i := 263) (by decide +kernel)) rfl
theorem w_232 : Cond.fieldLink "SlottedMesh" (60) "SlottedMesh" "seconds" "[I" ∈ zTB := zin (List.mem_of_getElem? (i := 264) (by decide +kernel)) rfl
theorem w_233 : Cond.fieldLink "SlottedMesh" (63) "SlottedMesh" "order" "[I" ∈ zTB := zin (List.mem_of_getElem? (i := 265) (by decide +kernel)) rfl
theorem w_234 : Cond.fieldLink "SlottedMesh" (66) "SlottedMesh" "busy" "[I" ∈ zTB := zin (List.mem_of_getElem? (i := 266) (by decide +kernel)) rfl
theorem w_235 : Cond.fieldLink "SlottedMesh" (69) "SlottedMesh" "used" "[I" ∈ zTB := zin (List.mem_of_getElem? (i := 267) (by decide +kernel)) rfl
theorem w_236 : Cond.fieldLink "SlottedMesh" (72) "SlottedMesh" "places" "[I" ∈ zTB := zin (List.mem_of_getElem? (i := 268) (by decide +kernel)) rfl
theorem w_237 : Cond.fieldLink "SlottedMesh" (166) "SlottedMesh" "placed" "I" ∈ zTB := zin (List.mem_of_getElem? (i := 269) (by decide +kernel)) rfl
theorem w_238 : Cond.fieldLink "SlottedMesh" (77) "SlottedMesh" "kept" "[[I" ∈ zTB := zin (List.mem_of_getElem? (i := 270) (by decide +kernel)) rfl
theorem w_239 : Cond.fieldLink "SlottedMesh" (80) "SlottedMesh" "newest" "[I" ∈ zTB := zin (List.mem_of_getElem? (i := 271) (by decide +kernel)) rfl
theorem w_240 : Cond.fieldLink "SlottedMesh" (83) "SlottedMesh" "target" "[I" ∈ zTB := zin (List.mem_of_getElem? (i := 272) (by decide +kernel)) rfl
theorem w_241 : Cond.fieldLink "SlottedMesh" (86) "SlottedMesh" "gain" "[I" ∈ zTB := zin (List.mem_of_getElem? (i := 273) (by decide +kernel)) rfl
theorem w_242 : Cond.fieldLink "SlottedMesh" (89) "SlottedMesh" "gainOfSum" "[I" ∈ zTB := zin (List.mem_of_getElem? (i := 274) (by decide +kernel)) rfl
theorem w_243 : Cond.fieldLink "SlottedMesh" (92) "SlottedMesh" "sum" "[I" ∈ zTB := zin (List.mem_of_getElem? (i := 275) (by decide +kernel)) rfl
theorem w_301 : Cond.methodLink "SlottedMeshLaw" (21) ⟨"SlottedMesh", "pair", "(IIZ)Z"⟩ ∈ zTB := zin (List.mem_of_getElem? (i := 333) (by decide +kernel)) rfl
theorem w_302 : Cond.instanceMethod ⟨"SlottedMesh", "pair", "(IIZ)Z"⟩ ∈ zTB := zin (List.mem_of_getElem? (i := 334) (by decide +kernel)) rfl
theorem w_303 : Cond.selects "SlottedMesh" ⟨"SlottedMesh", "pair", "(IIZ)Z"⟩ ⟨"SlottedMesh", "pair", "(IIZ)Z"⟩ ∈ zTB := zin (List.mem_of_getElem? (i := 335) (by decide +kernel)) rfl
theorem w_304 : Cond.code ⟨"SlottedMesh", "pair", "(IIZ)Z"⟩ prog_1_method_8_code (4) (some .boolean) ∈ zTB := zin (List.mem_of_getElem? (i := 336) (by decide +kernel)) rfl
theorem w_305 : Cond.methodLink "SlottedMesh" (162) ⟨"SlottedMesh", "node", "(I)LSlottedMesh$Node;"⟩ ∈ zTB := zin (List.mem_of_getElem? (i := 337) (by decide +kernel)) rfl
theorem w_307 : Cond.instanceMethod ⟨"SlottedMesh", "node", "(I)LSlottedMesh$Node;"⟩ ∈ zTB := zin (List.mem_of_getElem? (i := 339) (by decide +kernel)) rfl
theorem w_308 : Cond.code ⟨"SlottedMesh", "node", "(I)LSlottedMesh$Node;"⟩ prog_1_method_6_code (2) (some (.object "SlottedMesh$Node")) ∈ zTB := zin (List.mem_of_getElem? (i := 340) (by decide +kernel)) rfl
theorem w_309 : Cond.methodLink "SlottedMeshLaw" (26) ⟨"SlottedMesh", "plan", "()I"⟩ ∈ zTB := zin (List.mem_of_getElem? (i := 341) (by decide +kernel)) rfl
theorem w_310 : Cond.instanceMethod ⟨"SlottedMesh", "plan", "()I"⟩ ∈ zTB := zin (List.mem_of_getElem? (i := 342) (by decide +kernel)) rfl
theorem w_311 : Cond.selects "SlottedMesh" ⟨"SlottedMesh", "plan", "()I"⟩ ⟨"SlottedMesh", "plan", "()I"⟩ ∈ zTB := zin (List.mem_of_getElem? (i := 343) (by decide +kernel)) rfl
theorem w_312 : Cond.code ⟨"SlottedMesh", "plan", "()I"⟩ prog_1_method_18_code (1) (some .int) ∈ zTB := zin (List.mem_of_getElem? (i := 344) (by decide +kernel)) rfl
theorem w_313 : Cond.methodLink "SlottedMesh" (233) ⟨"SlottedMesh", "route", "()Z"⟩ ∈ zTB := zin (List.mem_of_getElem? (i := 345) (by decide +kernel)) rfl
theorem w_315 : Cond.instanceMethod ⟨"SlottedMesh", "route", "()Z"⟩ ∈ zTB := zin (List.mem_of_getElem? (i := 347) (by decide +kernel)) rfl
theorem w_316 : Cond.code ⟨"SlottedMesh", "route", "()Z"⟩ prog_1_method_9_code (5) (some .boolean) ∈ zTB := zin (List.mem_of_getElem? (i := 348) (by decide +kernel)) rfl
theorem w_317 : Cond.methodLink "SlottedMesh" (236) ⟨"SlottedMesh", "sort", "()V"⟩ ∈ zTB := zin (List.mem_of_getElem? (i := 349) (by decide +kernel)) rfl
theorem w_319 : Cond.instanceMethod ⟨"SlottedMesh", "sort", "()V"⟩ ∈ zTB := zin (List.mem_of_getElem? (i := 351) (by decide +kernel)) rfl
theorem w_320 : Cond.code ⟨"SlottedMesh", "sort", "()V"⟩ prog_1_method_10_code (4) none ∈ zTB := zin (List.mem_of_getElem? (i := 352) (by decide +kernel)) rfl
theorem w_321 : Cond.methodLink "SlottedMesh" (239) ⟨"SlottedMesh", "place", "()Z"⟩ ∈ zTB := zin (List.mem_of_getElem? (i := 353) (by decide +kernel)) rfl
theorem w_323 : Cond.instanceMethod ⟨"SlottedMesh", "place", "()Z"⟩ ∈ zTB := zin (List.mem_of_getElem? (i := 355) (by decide +kernel)) rfl
theorem w_324 : Cond.code ⟨"SlottedMesh", "place", "()Z"⟩ prog_1_method_14_code (4) (some .boolean) ∈ zTB := zin (List.mem_of_getElem? (i := 356) (by decide +kernel)) rfl
theorem w_325 : Cond.methodLink "SlottedMesh" (179) ⟨"SlottedMesh", "placeAdvert", "()Z"⟩ ∈ zTB := zin (List.mem_of_getElem? (i := 357) (by decide +kernel)) rfl
theorem w_327 : Cond.instanceMethod ⟨"SlottedMesh", "placeAdvert", "()Z"⟩ ∈ zTB := zin (List.mem_of_getElem? (i := 359) (by decide +kernel)) rfl
theorem w_328 : Cond.code ⟨"SlottedMesh", "placeAdvert", "()Z"⟩ prog_1_method_12_code (2) (some .boolean) ∈ zTB := zin (List.mem_of_getElem? (i := 360) (by decide +kernel)) rfl
theorem w_329 : Cond.methodLink "SlottedMesh" (169) ⟨"SlottedMesh", "note", "(II)V"⟩ ∈ zTB := zin (List.mem_of_getElem? (i := 361) (by decide +kernel)) rfl
theorem w_331 : Cond.instanceMethod ⟨"SlottedMesh", "note", "(II)V"⟩ ∈ zTB := zin (List.mem_of_getElem? (i := 363) (by decide +kernel)) rfl
theorem w_332 : Cond.code ⟨"SlottedMesh", "note", "(II)V"⟩ prog_1_method_11_code (3) none ∈ zTB := zin (List.mem_of_getElem? (i := 364) (by decide +kernel)) rfl
theorem w_333 : Cond.methodLink "SlottedMesh" (183) ⟨"SlottedMesh", "placeLink", "(II)Z"⟩ ∈ zTB := zin (List.mem_of_getElem? (i := 365) (by decide +kernel)) rfl
theorem w_335 : Cond.instanceMethod ⟨"SlottedMesh", "placeLink", "(II)Z"⟩ ∈ zTB := zin (List.mem_of_getElem? (i := 367) (by decide +kernel)) rfl
theorem w_336 : Cond.code ⟨"SlottedMesh", "placeLink", "(II)Z"⟩ prog_1_method_13_code (8) (some .boolean) ∈ zTB := zin (List.mem_of_getElem? (i := 368) (by decide +kernel)) rfl
theorem w_337 : Cond.methodLink "SlottedMesh" (173) ⟨"java/lang/Integer", "numberOfTrailingZeros", "(I)I"⟩ ∈ zTB := zin (List.mem_of_getElem? (i := 369) (by decide +kernel)) rfl
theorem w_338 : Cond.static ⟨"java/lang/Integer", "numberOfTrailingZeros", "(I)I"⟩ ∈ zTB := zin (List.mem_of_getElem? (i := 370) (by decide +kernel)) rfl
theorem w_339 : Cond.code ⟨"java/lang/Integer", "numberOfTrailingZeros", "(I)I"⟩ prog_12_method_48_code (2) (some .int) ∈ zTB := zin (List.mem_of_getElem? (i := 371) (by decide +kernel)) rfl
theorem w_340 : Cond.constant "java/lang/Integer" (264) (65536 : Int32) ∈ zTB := zin (List.mem_of_getElem? (i := 372) (by decide +kernel)) rfl
theorem w_341 : Cond.methodLink "SlottedMesh" (242) ⟨"SlottedMesh", "adopt", "()V"⟩ ∈ zTB := zin (List.mem_of_getElem? (i := 373) (by decide +kernel)) rfl
theorem w_343 : Cond.instanceMethod ⟨"SlottedMesh", "adopt", "()V"⟩ ∈ zTB := zin (List.mem_of_getElem? (i := 375) (by decide +kernel)) rfl
theorem w_344 : Cond.code ⟨"SlottedMesh", "adopt", "()V"⟩ prog_1_method_17_code (4) none ∈ zTB := zin (List.mem_of_getElem? (i := 376) (by decide +kernel)) rfl
theorem w_345 : Cond.methodLink "SlottedMesh" (225) ⟨"SlottedMesh", "empty", "(LSlottedMesh$Row;)V"⟩ ∈ zTB := zin (List.mem_of_getElem? (i := 377) (by decide +kernel)) rfl
theorem w_347 : Cond.instanceMethod ⟨"SlottedMesh", "empty", "(LSlottedMesh$Row;)V"⟩ ∈ zTB := zin (List.mem_of_getElem? (i := 379) (by decide +kernel)) rfl
theorem w_348 : Cond.code ⟨"SlottedMesh", "empty", "(LSlottedMesh$Row;)V"⟩ prog_1_method_5_code (2) none ∈ zTB := zin (List.mem_of_getElem? (i := 380) (by decide +kernel)) rfl
theorem w_349 : Cond.methodLink "SlottedMesh" (154) ⟨"SlottedMesh$Row", "take", "()LSlottedMesh$Frame;"⟩ ∈ zTB := zin (List.mem_of_getElem? (i := 381) (by decide +kernel)) rfl
theorem w_350 : Cond.instanceMethod ⟨"SlottedMesh$Row", "take", "()LSlottedMesh$Frame;"⟩ ∈ zTB := zin (List.mem_of_getElem? (i := 382) (by decide +kernel)) rfl
theorem w_351 : Cond.selects "SlottedMesh$Row" ⟨"SlottedMesh$Row", "take", "()LSlottedMesh$Frame;"⟩ ⟨"SlottedMesh$Row", "take", "()LSlottedMesh$Frame;"⟩ ∈ zTB := zin (List.mem_of_getElem? (i := 383) (by decide +kernel)) rfl
theorem w_352 : Cond.code ⟨"SlottedMesh$Row", "take", "()LSlottedMesh$Frame;"⟩ prog_8_method_3_code (2) (some (.object "SlottedMesh$Frame")) ∈ zTB := zin (List.mem_of_getElem? (i := 384) (by decide +kernel)) rfl
theorem w_353 : Cond.methodLink "SlottedMesh" (158) ⟨"SlottedMesh", "release", "(LSlottedMesh$Frame;)V"⟩ ∈ zTB := zin (List.mem_of_getElem? (i := 385) (by decide +kernel)) rfl
theorem w_355 : Cond.instanceMethod ⟨"SlottedMesh", "release", "(LSlottedMesh$Frame;)V"⟩ ∈ zTB := zin (List.mem_of_getElem? (i := 387) (by decide +kernel)) rfl
theorem w_356 : Cond.code ⟨"SlottedMesh", "release", "(LSlottedMesh$Frame;)V"⟩ prog_1_method_4_code (2) none ∈ zTB := zin (List.mem_of_getElem? (i := 388) (by decide +kernel)) rfl
theorem w_357 : Cond.methodLink "SlottedMesh" (202) ⟨"SlottedMesh", "hang", "(LSlottedMesh$Cell;LSlottedMesh$Node;I)V"⟩ ∈ zTB := zin (List.mem_of_getElem? (i := 389) (by decide +kernel)) rfl
theorem w_359 : Cond.instanceMethod ⟨"SlottedMesh", "hang", "(LSlottedMesh$Cell;LSlottedMesh$Node;I)V"⟩ ∈ zTB := zin (List.mem_of_getElem? (i := 391) (by decide +kernel)) rfl
theorem w_360 : Cond.code ⟨"SlottedMesh", "hang", "(LSlottedMesh$Cell;LSlottedMesh$Node;I)V"⟩ prog_1_method_15_code (4) none ∈ zTB := zin (List.mem_of_getElem? (i := 392) (by decide +kernel)) rfl
theorem w_361 : Cond.methodLink "SlottedMesh" (229) ⟨"SlottedMesh", "hangLink", "(LSlottedMesh$Link;LSlottedMesh$Node;LSlottedMesh$Node;I)V"⟩ ∈ zTB := zin (List.mem_of_getElem? (i := 393) (by decide +kernel)) rfl
theorem w_363 : Cond.instanceMethod ⟨"SlottedMesh", "hangLink", "(LSlottedMesh$Link;LSlottedMesh$Node;LSlottedMesh$Node;I)V"⟩ ∈ zTB := zin (List.mem_of_getElem? (i := 395) (by decide +kernel)) rfl
theorem w_364 : Cond.code ⟨"SlottedMesh", "hangLink", "(LSlottedMesh$Link;LSlottedMesh$Node;LSlottedMesh$Node;I)V"⟩ prog_1_method_16_code (5) none ∈ zTB := zin (List.mem_of_getElem? (i := 396) (by decide +kernel)) rfl
theorem w_365 : Cond.methodLink "SlottedMeshLaw" (31) ⟨"SlottedMesh", "start", "(I)Z"⟩ ∈ zTB := zin (List.mem_of_getElem? (i := 397) (by decide +kernel)) rfl
theorem w_366 : Cond.instanceMethod ⟨"SlottedMesh", "start", "(I)Z"⟩ ∈ zTB := zin (List.mem_of_getElem? (i := 398) (by decide +kernel)) rfl
theorem w_367 : Cond.selects "SlottedMesh" ⟨"SlottedMesh", "start", "(I)Z"⟩ ⟨"SlottedMesh", "start", "(I)Z"⟩ ∈ zTB := zin (List.mem_of_getElem? (i := 399) (by decide +kernel)) rfl
theorem w_368 : Cond.code ⟨"SlottedMesh", "start", "(I)Z"⟩ prog_1_method_19_code (3) (some .boolean) ∈ zTB := zin (List.mem_of_getElem? (i := 400) (by decide +kernel)) rfl
theorem w_369 : Cond.methodLink "SlottedMeshLaw" (36) ⟨"SlottedMesh", "stop", "(I)Z"⟩ ∈ zTB := zin (List.mem_of_getElem? (i := 401) (by decide +kernel)) rfl
theorem w_370 : Cond.instanceMethod ⟨"SlottedMesh", "stop", "(I)Z"⟩ ∈ zTB := zin (List.mem_of_getElem? (i := 402) (by decide +kernel)) rfl
theorem w_371 : Cond.selects "SlottedMesh" ⟨"SlottedMesh", "stop", "(I)Z"⟩ ⟨"SlottedMesh", "stop", "(I)Z"⟩ ∈ zTB := zin (List.mem_of_getElem? (i := 403) (by decide +kernel)) rfl
theorem w_372 : Cond.code ⟨"SlottedMesh", "stop", "(I)Z"⟩ prog_1_method_20_code (4) (some .boolean) ∈ zTB := zin (List.mem_of_getElem? (i := 404) (by decide +kernel)) rfl
theorem w_373 : Cond.methodLink "SlottedMesh" (245) ⟨"SlottedMesh", "field", "(I)LSlottedMesh$Node;"⟩ ∈ zTB := zin (List.mem_of_getElem? (i := 405) (by decide +kernel)) rfl
theorem w_375 : Cond.instanceMethod ⟨"SlottedMesh", "field", "(I)LSlottedMesh$Node;"⟩ ∈ zTB := zin (List.mem_of_getElem? (i := 407) (by decide +kernel)) rfl
theorem w_376 : Cond.code ⟨"SlottedMesh", "field", "(I)LSlottedMesh$Node;"⟩ prog_1_method_7_code (2) (some (.object "SlottedMesh$Node")) ∈ zTB := zin (List.mem_of_getElem? (i := 408) (by decide +kernel)) rfl
theorem w_377 : Cond.methodLink "SlottedMeshLaw" (40) ⟨"SlottedMesh", "drift", "(II)Z"⟩ ∈ zTB := zin (List.mem_of_getElem? (i := 409) (by decide +kernel)) rfl
theorem w_378 : Cond.instanceMethod ⟨"SlottedMesh", "drift", "(II)Z"⟩ ∈ zTB := zin (List.mem_of_getElem? (i := 410) (by decide +kernel)) rfl
theorem w_379 : Cond.selects "SlottedMesh" ⟨"SlottedMesh", "drift", "(II)Z"⟩ ⟨"SlottedMesh", "drift", "(II)Z"⟩ ∈ zTB := zin (List.mem_of_getElem? (i := 411) (by decide +kernel)) rfl
theorem w_380 : Cond.code ⟨"SlottedMesh", "drift", "(II)Z"⟩ prog_1_method_21_code (4) (some .boolean) ∈ zTB := zin (List.mem_of_getElem? (i := 412) (by decide +kernel)) rfl
theorem w_381 : Cond.methodLink "SlottedMeshLaw" (47) ⟨"SlottedMesh", "radio", "(IJJ)Z"⟩ ∈ zTB := zin (List.mem_of_getElem? (i := 413) (by decide +kernel)) rfl
theorem w_382 : Cond.instanceMethod ⟨"SlottedMesh", "radio", "(IJJ)Z"⟩ ∈ zTB := zin (List.mem_of_getElem? (i := 414) (by decide +kernel)) rfl
theorem w_383 : Cond.selects "SlottedMesh" ⟨"SlottedMesh", "radio", "(IJJ)Z"⟩ ⟨"SlottedMesh", "radio", "(IJJ)Z"⟩ ∈ zTB := zin (List.mem_of_getElem? (i := 415) (by decide +kernel)) rfl
theorem w_384 : Cond.code ⟨"SlottedMesh", "radio", "(IJJ)Z"⟩ prog_1_method_22_code (6) (some .boolean) ∈ zTB := zin (List.mem_of_getElem? (i := 416) (by decide +kernel)) rfl
theorem w_385 : Cond.methodLink "SlottedMeshLaw" (52) ⟨"SlottedMesh", "sample", "(II)I"⟩ ∈ zTB := zin (List.mem_of_getElem? (i := 417) (by decide +kernel)) rfl
theorem w_386 : Cond.instanceMethod ⟨"SlottedMesh", "sample", "(II)I"⟩ ∈ zTB := zin (List.mem_of_getElem? (i := 418) (by decide +kernel)) rfl
theorem w_387 : Cond.selects "SlottedMesh" ⟨"SlottedMesh", "sample", "(II)I"⟩ ⟨"SlottedMesh", "sample", "(II)I"⟩ ∈ zTB := zin (List.mem_of_getElem? (i := 419) (by decide +kernel)) rfl
theorem w_388 : Cond.code ⟨"SlottedMesh", "sample", "(II)I"⟩ prog_1_method_24_code (4) (some .int) ∈ zTB := zin (List.mem_of_getElem? (i := 420) (by decide +kernel)) rfl
theorem w_389 : Cond.methodLink "SlottedMesh" (263) ⟨"SlottedMesh", "wide", "(I)Z"⟩ ∈ zTB := zin (List.mem_of_getElem? (i := 421) (by decide +kernel)) rfl
theorem w_390 : Cond.static ⟨"SlottedMesh", "wide", "(I)Z"⟩ ∈ zTB := zin (List.mem_of_getElem? (i := 422) (by decide +kernel)) rfl
theorem w_391 : Cond.code ⟨"SlottedMesh", "wide", "(I)Z"⟩ prog_1_method_23_code (1) (some .boolean) ∈ zTB := zin (List.mem_of_getElem? (i := 423) (by decide +kernel)) rfl
theorem w_392 : Cond.methodLink "SlottedMesh" (270) ⟨"SlottedMesh", "frame", "(III)LSlottedMesh$Frame;"⟩ ∈ zTB := zin (List.mem_of_getElem? (i := 424) (by decide +kernel)) rfl
theorem w_394 : Cond.instanceMethod ⟨"SlottedMesh", "frame", "(III)LSlottedMesh$Frame;"⟩ ∈ zTB := zin (List.mem_of_getElem? (i := 426) (by decide +kernel)) rfl
theorem w_395 : Cond.code ⟨"SlottedMesh", "frame", "(III)LSlottedMesh$Frame;"⟩ prog_1_method_3_code (5) (some (.object "SlottedMesh$Frame")) ∈ zTB := zin (List.mem_of_getElem? (i := 427) (by decide +kernel)) rfl
theorem w_396 : Cond.classLink "SlottedMesh" (134) "SlottedMesh$Frame" ∈ zTB := zin (List.mem_of_getElem? (i := 428) (by decide +kernel)) rfl
theorem w_397 : Cond.instantiable "SlottedMesh$Frame" (4) ∈ zTB := zin (List.mem_of_getElem? (i := 429) (by decide +kernel)) rfl
theorem v_398 : Cond.methodLinkNest "SlottedMesh" (136) ⟨"SlottedMesh$Frame", "<init>", "()V"⟩ "SlottedMesh" ∈ lw_tbl := List.mem_of_getElem? (i := 430) (by decide +kernel)
theorem w_399 : Cond.instanceMethod ⟨"SlottedMesh$Frame", "<init>", "()V"⟩ ∈ zTB := zin (List.mem_of_getElem? (i := 431) (by decide +kernel)) rfl
theorem w_400 : Cond.code ⟨"SlottedMesh$Frame", "<init>", "()V"⟩ prog_5_method_1_code (1) none ∈ zTB := zin (List.mem_of_getElem? (i := 432) (by decide +kernel)) rfl
theorem w_401 : Cond.methodLink "SlottedMesh$Frame" (1) ⟨"java/lang/Object", "<init>", "()V"⟩ ∈ zTB := zin (List.mem_of_getElem? (i := 433) (by decide +kernel)) rfl
theorem v_402 : Cond.fieldLinkNest "SlottedMesh$Down" (38) "SlottedMesh$Frame" "about" "I" "SlottedMesh" ∈ lw_tbl := List.mem_of_getElem? (i := 434) (by decide +kernel)
theorem v_403 : Cond.fieldLinkNest "SlottedMesh" (140) "SlottedMesh$Frame" "about" "I" "SlottedMesh" ∈ lw_tbl := List.mem_of_getElem? (i := 435) (by decide +kernel)
theorem v_404 : Cond.fieldLinkNest "SlottedMesh$Up" (43) "SlottedMesh$Frame" "about" "I" "SlottedMesh" ∈ lw_tbl := List.mem_of_getElem? (i := 436) (by decide +kernel)
theorem v_405 : Cond.fieldLinkNest "SlottedMesh" (143) "SlottedMesh$Frame" "number" "I" "SlottedMesh" ∈ lw_tbl := List.mem_of_getElem? (i := 437) (by decide +kernel)
theorem v_406 : Cond.fieldLinkNest "SlottedMesh$Up" (34) "SlottedMesh$Frame" "number" "I" "SlottedMesh" ∈ lw_tbl := List.mem_of_getElem? (i := 438) (by decide +kernel)
theorem v_407 : Cond.fieldLinkNest "SlottedMesh$Down" (50) "SlottedMesh$Frame" "number" "I" "SlottedMesh" ∈ lw_tbl := List.mem_of_getElem? (i := 439) (by decide +kernel)
theorem v_408 : Cond.fieldLinkNest "SlottedMesh" (146) "SlottedMesh$Frame" "value" "I" "SlottedMesh" ∈ lw_tbl := List.mem_of_getElem? (i := 440) (by decide +kernel)
theorem v_409 : Cond.fieldLinkNest "SlottedMesh$Down" (60) "SlottedMesh$Frame" "value" "I" "SlottedMesh" ∈ lw_tbl := List.mem_of_getElem? (i := 441) (by decide +kernel)
theorem v_410 : Cond.fieldLinkNest "SlottedMesh$Up" (53) "SlottedMesh$Frame" "value" "I" "SlottedMesh" ∈ lw_tbl := List.mem_of_getElem? (i := 442) (by decide +kernel)
theorem v_411 : Cond.fieldLinkNest "SlottedMesh$Row" (16) "SlottedMesh$Frame" "next" "LSlottedMesh$Frame;" "SlottedMesh" ∈ lw_tbl := List.mem_of_getElem? (i := 443) (by decide +kernel)
theorem v_412 : Cond.fieldLinkNest "SlottedMesh" (137) "SlottedMesh$Frame" "next" "LSlottedMesh$Frame;" "SlottedMesh" ∈ lw_tbl := List.mem_of_getElem? (i := 444) (by decide +kernel)
theorem w_422 : Cond.methodLink "SlottedMesh" (274) ⟨"SlottedMesh$Row", "add", "(LSlottedMesh$Frame;)V"⟩ ∈ zTB := zin (List.mem_of_getElem? (i := 454) (by decide +kernel)) rfl
theorem w_423 : Cond.instanceMethod ⟨"SlottedMesh$Row", "add", "(LSlottedMesh$Frame;)V"⟩ ∈ zTB := zin (List.mem_of_getElem? (i := 455) (by decide +kernel)) rfl
theorem w_424 : Cond.selects "SlottedMesh$Row" ⟨"SlottedMesh$Row", "add", "(LSlottedMesh$Frame;)V"⟩ ⟨"SlottedMesh$Row", "add", "(LSlottedMesh$Frame;)V"⟩ ∈ zTB := zin (List.mem_of_getElem? (i := 456) (by decide +kernel)) rfl
theorem w_425 : Cond.code ⟨"SlottedMesh$Row", "add", "(LSlottedMesh$Frame;)V"⟩ prog_8_method_2_code (2) none ∈ zTB := zin (List.mem_of_getElem? (i := 457) (by decide +kernel)) rfl
theorem w_426 : Cond.methodLink "SlottedMeshLaw" (57) ⟨"SlottedMesh", "control", "(IIII)Z"⟩ ∈ zTB := zin (List.mem_of_getElem? (i := 458) (by decide +kernel)) rfl
theorem w_427 : Cond.instanceMethod ⟨"SlottedMesh", "control", "(IIII)Z"⟩ ∈ zTB := zin (List.mem_of_getElem? (i := 459) (by decide +kernel)) rfl
theorem w_428 : Cond.selects "SlottedMesh" ⟨"SlottedMesh", "control", "(IIII)Z"⟩ ⟨"SlottedMesh", "control", "(IIII)Z"⟩ ∈ zTB := zin (List.mem_of_getElem? (i := 460) (by decide +kernel)) rfl
theorem w_429 : Cond.code ⟨"SlottedMesh", "control", "(IIII)Z"⟩ prog_1_method_25_code (5) (some .boolean) ∈ zTB := zin (List.mem_of_getElem? (i := 461) (by decide +kernel)) rfl
theorem w_430 : Cond.methodLink "SlottedMeshLaw" (62) ⟨"SlottedMesh", "run", "(I)I"⟩ ∈ zTB := zin (List.mem_of_getElem? (i := 462) (by decide +kernel)) rfl
theorem w_431 : Cond.instanceMethod ⟨"SlottedMesh", "run", "(I)I"⟩ ∈ zTB := zin (List.mem_of_getElem? (i := 463) (by decide +kernel)) rfl
theorem w_432 : Cond.selects "SlottedMesh" ⟨"SlottedMesh", "run", "(I)I"⟩ ⟨"SlottedMesh", "run", "(I)I"⟩ ∈ zTB := zin (List.mem_of_getElem? (i := 464) (by decide +kernel)) rfl
theorem w_433 : Cond.code ⟨"SlottedMesh", "run", "(I)I"⟩ prog_1_method_28_code (4) (some .int) ∈ zTB := zin (List.mem_of_getElem? (i := 465) (by decide +kernel)) rfl
theorem w_434 : Cond.methodLink "SlottedMesh" (280) ⟨"SlottedMesh$Cell", "go", "(LSlottedMesh;)V"⟩ ∈ zTB := zin (List.mem_of_getElem? (i := 466) (by decide +kernel)) rfl
theorem v_435 : Cond.declares ⟨"SlottedMesh$Cell", "go", "(LSlottedMesh;)V"⟩ ∈ lw_tbl := List.mem_of_getElem? (i := 467) (by decide +kernel)
theorem w_436 : Cond.sameMethod "SlottedMesh$Cell" "SlottedMesh$Cell" "go" "(LSlottedMesh;)V" ∈ zTB := zin (List.mem_of_getElem? (i := 468) (by decide +kernel)) rfl
theorem w_437 : Cond.selects "SlottedMesh$Advert" ⟨"SlottedMesh$Cell", "go", "(LSlottedMesh;)V"⟩ ⟨"SlottedMesh$Advert", "go", "(LSlottedMesh;)V"⟩ ∈ zTB := zin (List.mem_of_getElem? (i := 469) (by decide +kernel)) rfl
theorem w_438 : Cond.instanceMethod ⟨"SlottedMesh$Advert", "go", "(LSlottedMesh;)V"⟩ ∈ zTB := zin (List.mem_of_getElem? (i := 470) (by decide +kernel)) rfl
theorem w_439 : Cond.code ⟨"SlottedMesh$Advert", "go", "(LSlottedMesh;)V"⟩ prog_2_method_3_code (5) none ∈ zTB := zin (List.mem_of_getElem? (i := 471) (by decide +kernel)) rfl
theorem v_440 : Cond.methodLinkNest "SlottedMesh$Advert" (29) ⟨"SlottedMesh", "good", "([JI)Z"⟩ "SlottedMesh" ∈ lw_tbl := List.mem_of_getElem? (i := 472) (by decide +kernel)
theorem w_442 : Cond.instanceMethod ⟨"SlottedMesh", "good", "([JI)Z"⟩ ∈ zTB := zin (List.mem_of_getElem? (i := 474) (by decide +kernel)) rfl
theorem w_443 : Cond.code ⟨"SlottedMesh", "good", "([JI)Z"⟩ prog_1_method_2_code (3) (some .boolean) ∈ zTB := zin (List.mem_of_getElem? (i := 475) (by decide +kernel)) rfl
theorem w_444 : Cond.methodLink "SlottedMesh$Advert" (50) ⟨"SlottedMesh$Node", "inStep", "(LSlottedMesh$Node;)Z"⟩ ∈ zTB := zin (List.mem_of_getElem? (i := 476) (by decide +kernel)) rfl
theorem w_445 : Cond.instanceMethod ⟨"SlottedMesh$Node", "inStep", "(LSlottedMesh$Node;)Z"⟩ ∈ zTB := zin (List.mem_of_getElem? (i := 477) (by decide +kernel)) rfl
theorem w_446 : Cond.selects "SlottedMesh$Node" ⟨"SlottedMesh$Node", "inStep", "(LSlottedMesh$Node;)Z"⟩ ⟨"SlottedMesh$Node", "inStep", "(LSlottedMesh$Node;)Z"⟩ ∈ zTB := zin (List.mem_of_getElem? (i := 478) (by decide +kernel)) rfl
theorem w_447 : Cond.code ⟨"SlottedMesh$Node", "inStep", "(LSlottedMesh$Node;)Z"⟩ prog_7_method_2_code (3) (some .boolean) ∈ zTB := zin (List.mem_of_getElem? (i := 479) (by decide +kernel)) rfl
theorem w_448 : Cond.selects "SlottedMesh$Down" ⟨"SlottedMesh$Cell", "go", "(LSlottedMesh;)V"⟩ ⟨"SlottedMesh$Link", "go", "(LSlottedMesh;)V"⟩ ∈ zTB := zin (List.mem_of_getElem? (i := 480) (by decide +kernel)) rfl
theorem w_449 : Cond.instanceMethod ⟨"SlottedMesh$Link", "go", "(LSlottedMesh;)V"⟩ ∈ zTB := zin (List.mem_of_getElem? (i := 481) (by decide +kernel)) rfl
theorem w_450 : Cond.code ⟨"SlottedMesh$Link", "go", "(LSlottedMesh;)V"⟩ prog_6_method_6_code (4) none ∈ zTB := zin (List.mem_of_getElem? (i := 482) (by decide +kernel)) rfl
theorem w_451 : Cond.methodLink "SlottedMesh$Link" (19) ⟨"SlottedMesh$Link", "due", "(LSlottedMesh;)LSlottedMesh$Frame;"⟩ ∈ zTB := zin (List.mem_of_getElem? (i := 483) (by decide +kernel)) rfl
theorem v_452 : Cond.declares ⟨"SlottedMesh$Link", "due", "(LSlottedMesh;)LSlottedMesh$Frame;"⟩ ∈ lw_tbl := List.mem_of_getElem? (i := 484) (by decide +kernel)
theorem w_453 : Cond.sameMethod "SlottedMesh$Link" "SlottedMesh$Link" "due" "(LSlottedMesh;)LSlottedMesh$Frame;" ∈ zTB := zin (List.mem_of_getElem? (i := 485) (by decide +kernel)) rfl
theorem w_454 : Cond.selects "SlottedMesh$Down" ⟨"SlottedMesh$Link", "due", "(LSlottedMesh;)LSlottedMesh$Frame;"⟩ ⟨"SlottedMesh$Down", "due", "(LSlottedMesh;)LSlottedMesh$Frame;"⟩ ∈ zTB := zin (List.mem_of_getElem? (i := 486) (by decide +kernel)) rfl
theorem w_455 : Cond.instanceMethod ⟨"SlottedMesh$Down", "due", "(LSlottedMesh;)LSlottedMesh$Frame;"⟩ ∈ zTB := zin (List.mem_of_getElem? (i := 487) (by decide +kernel)) rfl
theorem w_456 : Cond.code ⟨"SlottedMesh$Down", "due", "(LSlottedMesh;)LSlottedMesh$Frame;"⟩ prog_4_method_3_code (3) (some (.object "SlottedMesh$Frame")) ∈ zTB := zin (List.mem_of_getElem? (i := 488) (by decide +kernel)) rfl
theorem w_457 : Cond.methodLink "SlottedMesh$Down" (43) ⟨"SlottedMesh$Node", "towards", "(LSlottedMesh$Node;)LSlottedMesh$Node;"⟩ ∈ zTB := zin (List.mem_of_getElem? (i := 489) (by decide +kernel)) rfl
theorem w_458 : Cond.instanceMethod ⟨"SlottedMesh$Node", "towards", "(LSlottedMesh$Node;)LSlottedMesh$Node;"⟩ ∈ zTB := zin (List.mem_of_getElem? (i := 490) (by decide +kernel)) rfl
theorem w_459 : Cond.selects "SlottedMesh$Node" ⟨"SlottedMesh$Node", "towards", "(LSlottedMesh$Node;)LSlottedMesh$Node;"⟩ ⟨"SlottedMesh$Node", "towards", "(LSlottedMesh$Node;)LSlottedMesh$Node;"⟩ ∈ zTB := zin (List.mem_of_getElem? (i := 491) (by decide +kernel)) rfl
theorem w_460 : Cond.code ⟨"SlottedMesh$Node", "towards", "(LSlottedMesh$Node;)LSlottedMesh$Node;"⟩ prog_7_method_3_code (4) (some (.object "SlottedMesh$Node")) ∈ zTB := zin (List.mem_of_getElem? (i := 492) (by decide +kernel)) rfl
theorem w_461 : Cond.selects "SlottedMesh$Up" ⟨"SlottedMesh$Link", "due", "(LSlottedMesh;)LSlottedMesh$Frame;"⟩ ⟨"SlottedMesh$Up", "due", "(LSlottedMesh;)LSlottedMesh$Frame;"⟩ ∈ zTB := zin (List.mem_of_getElem? (i := 493) (by decide +kernel)) rfl
theorem w_462 : Cond.instanceMethod ⟨"SlottedMesh$Up", "due", "(LSlottedMesh;)LSlottedMesh$Frame;"⟩ ∈ zTB := zin (List.mem_of_getElem? (i := 494) (by decide +kernel)) rfl
theorem w_463 : Cond.code ⟨"SlottedMesh$Up", "due", "(LSlottedMesh;)LSlottedMesh$Frame;"⟩ prog_9_method_3_code (2) (some (.object "SlottedMesh$Frame")) ∈ zTB := zin (List.mem_of_getElem? (i := 495) (by decide +kernel)) rfl
theorem w_464 : Cond.methodLink "SlottedMesh$Link" (39) ⟨"SlottedMesh$Node", "inStep", "(LSlottedMesh$Node;)Z"⟩ ∈ zTB := zin (List.mem_of_getElem? (i := 496) (by decide +kernel)) rfl
theorem v_465 : Cond.methodLinkNest "SlottedMesh$Link" (50) ⟨"SlottedMesh", "good", "([JI)Z"⟩ "SlottedMesh" ∈ lw_tbl := List.mem_of_getElem? (i := 497) (by decide +kernel)
theorem w_466 : Cond.methodLink "SlottedMesh$Link" (54) ⟨"SlottedMesh$Link", "arrives", "(LSlottedMesh;LSlottedMesh$Frame;)Z"⟩ ∈ zTB := zin (List.mem_of_getElem? (i := 498) (by decide +kernel)) rfl
theorem v_467 : Cond.declares ⟨"SlottedMesh$Link", "arrives", "(LSlottedMesh;LSlottedMesh$Frame;)Z"⟩ ∈ lw_tbl := List.mem_of_getElem? (i := 499) (by decide +kernel)
theorem w_468 : Cond.sameMethod "SlottedMesh$Link" "SlottedMesh$Link" "arrives" "(LSlottedMesh;LSlottedMesh$Frame;)Z" ∈ zTB := zin (List.mem_of_getElem? (i := 500) (by decide +kernel)) rfl
theorem w_469 : Cond.selects "SlottedMesh$Down" ⟨"SlottedMesh$Link", "arrives", "(LSlottedMesh;LSlottedMesh$Frame;)Z"⟩ ⟨"SlottedMesh$Down", "arrives", "(LSlottedMesh;LSlottedMesh$Frame;)Z"⟩ ∈ zTB := zin (List.mem_of_getElem? (i := 501) (by decide +kernel)) rfl
theorem w_470 : Cond.instanceMethod ⟨"SlottedMesh$Down", "arrives", "(LSlottedMesh;LSlottedMesh$Frame;)Z"⟩ ∈ zTB := zin (List.mem_of_getElem? (i := 502) (by decide +kernel)) rfl
theorem w_471 : Cond.code ⟨"SlottedMesh$Down", "arrives", "(LSlottedMesh;LSlottedMesh$Frame;)Z"⟩ prog_4_method_4_code (4) (some .boolean) ∈ zTB := zin (List.mem_of_getElem? (i := 503) (by decide +kernel)) rfl
theorem v_472 : Cond.methodLinkNest "SlottedMesh$Down" (66) ⟨"SlottedMesh", "frame", "(III)LSlottedMesh$Frame;"⟩ "SlottedMesh" ∈ lw_tbl := List.mem_of_getElem? (i := 504) (by decide +kernel)
theorem w_473 : Cond.methodLink "SlottedMesh$Down" (70) ⟨"SlottedMesh$Row", "add", "(LSlottedMesh$Frame;)V"⟩ ∈ zTB := zin (List.mem_of_getElem? (i := 505) (by decide +kernel)) rfl
theorem w_474 : Cond.selects "SlottedMesh$Up" ⟨"SlottedMesh$Link", "arrives", "(LSlottedMesh;LSlottedMesh$Frame;)Z"⟩ ⟨"SlottedMesh$Up", "arrives", "(LSlottedMesh;LSlottedMesh$Frame;)Z"⟩ ∈ zTB := zin (List.mem_of_getElem? (i := 506) (by decide +kernel)) rfl
theorem w_475 : Cond.instanceMethod ⟨"SlottedMesh$Up", "arrives", "(LSlottedMesh;LSlottedMesh$Frame;)Z"⟩ ∈ zTB := zin (List.mem_of_getElem? (i := 507) (by decide +kernel)) rfl
theorem w_476 : Cond.code ⟨"SlottedMesh$Up", "arrives", "(LSlottedMesh;LSlottedMesh$Frame;)Z"⟩ prog_9_method_4_code (4) (some .boolean) ∈ zTB := zin (List.mem_of_getElem? (i := 508) (by decide +kernel)) rfl
theorem v_477 : Cond.methodLinkNest "SlottedMesh$Up" (49) ⟨"SlottedMesh", "cache", "(LSlottedMesh$Frame;)V"⟩ "SlottedMesh" ∈ lw_tbl := List.mem_of_getElem? (i := 509) (by decide +kernel)
theorem w_479 : Cond.instanceMethod ⟨"SlottedMesh", "cache", "(LSlottedMesh$Frame;)V"⟩ ∈ zTB := zin (List.mem_of_getElem? (i := 511) (by decide +kernel)) rfl
theorem w_480 : Cond.code ⟨"SlottedMesh", "cache", "(LSlottedMesh$Frame;)V"⟩ prog_1_method_27_code (6) none ∈ zTB := zin (List.mem_of_getElem? (i := 512) (by decide +kernel)) rfl
theorem w_481 : Cond.methodLink "SlottedMesh" (277) ⟨"SlottedMesh", "between", "(II)I"⟩ ∈ zTB := zin (List.mem_of_getElem? (i := 513) (by decide +kernel)) rfl
theorem w_482 : Cond.static ⟨"SlottedMesh", "between", "(II)I"⟩ ∈ zTB := zin (List.mem_of_getElem? (i := 514) (by decide +kernel)) rfl
theorem w_483 : Cond.code ⟨"SlottedMesh", "between", "(II)I"⟩ prog_1_method_26_code (2) (some .int) ∈ zTB := zin (List.mem_of_getElem? (i := 515) (by decide +kernel)) rfl
theorem v_484 : Cond.methodLinkNest "SlottedMesh$Up" (56) ⟨"SlottedMesh", "frame", "(III)LSlottedMesh$Frame;"⟩ "SlottedMesh" ∈ lw_tbl := List.mem_of_getElem? (i := 516) (by decide +kernel)
theorem w_485 : Cond.methodLink "SlottedMesh$Up" (60) ⟨"SlottedMesh$Row", "add", "(LSlottedMesh$Frame;)V"⟩ ∈ zTB := zin (List.mem_of_getElem? (i := 517) (by decide +kernel)) rfl
theorem w_486 : Cond.methodLink "SlottedMesh$Link" (61) ⟨"SlottedMesh$Link", "done", "(LSlottedMesh;)V"⟩ ∈ zTB := zin (List.mem_of_getElem? (i := 518) (by decide +kernel)) rfl
theorem v_487 : Cond.declares ⟨"SlottedMesh$Link", "done", "(LSlottedMesh;)V"⟩ ∈ lw_tbl := List.mem_of_getElem? (i := 519) (by decide +kernel)
theorem w_488 : Cond.sameMethod "SlottedMesh$Link" "SlottedMesh$Link" "done" "(LSlottedMesh;)V" ∈ zTB := zin (List.mem_of_getElem? (i := 520) (by decide +kernel)) rfl
theorem w_489 : Cond.selects "SlottedMesh$Down" ⟨"SlottedMesh$Link", "done", "(LSlottedMesh;)V"⟩ ⟨"SlottedMesh$Down", "done", "(LSlottedMesh;)V"⟩ ∈ zTB := zin (List.mem_of_getElem? (i := 521) (by decide +kernel)) rfl
theorem w_490 : Cond.instanceMethod ⟨"SlottedMesh$Down", "done", "(LSlottedMesh;)V"⟩ ∈ zTB := zin (List.mem_of_getElem? (i := 522) (by decide +kernel)) rfl
theorem w_491 : Cond.code ⟨"SlottedMesh$Down", "done", "(LSlottedMesh;)V"⟩ prog_4_method_5_code (2) none ∈ zTB := zin (List.mem_of_getElem? (i := 523) (by decide +kernel)) rfl
theorem w_492 : Cond.methodLink "SlottedMesh$Down" (74) ⟨"SlottedMesh$Row", "take", "()LSlottedMesh$Frame;"⟩ ∈ zTB := zin (List.mem_of_getElem? (i := 524) (by decide +kernel)) rfl
theorem v_493 : Cond.methodLinkNest "SlottedMesh$Down" (78) ⟨"SlottedMesh", "release", "(LSlottedMesh$Frame;)V"⟩ "SlottedMesh" ∈ lw_tbl := List.mem_of_getElem? (i := 525) (by decide +kernel)
theorem w_494 : Cond.selects "SlottedMesh$Up" ⟨"SlottedMesh$Link", "done", "(LSlottedMesh;)V"⟩ ⟨"SlottedMesh$Up", "done", "(LSlottedMesh;)V"⟩ ∈ zTB := zin (List.mem_of_getElem? (i := 526) (by decide +kernel)) rfl
theorem w_495 : Cond.instanceMethod ⟨"SlottedMesh$Up", "done", "(LSlottedMesh;)V"⟩ ∈ zTB := zin (List.mem_of_getElem? (i := 527) (by decide +kernel)) rfl
theorem w_496 : Cond.code ⟨"SlottedMesh$Up", "done", "(LSlottedMesh;)V"⟩ prog_9_method_5_code (2) none ∈ zTB := zin (List.mem_of_getElem? (i := 528) (by decide +kernel)) rfl
theorem w_497 : Cond.methodLink "SlottedMesh$Up" (63) ⟨"SlottedMesh$Row", "take", "()LSlottedMesh$Frame;"⟩ ∈ zTB := zin (List.mem_of_getElem? (i := 529) (by decide +kernel)) rfl
theorem v_498 : Cond.methodLinkNest "SlottedMesh$Up" (67) ⟨"SlottedMesh", "release", "(LSlottedMesh$Frame;)V"⟩ "SlottedMesh" ∈ lw_tbl := List.mem_of_getElem? (i := 530) (by decide +kernel)
theorem w_499 : Cond.methodLink "SlottedMesh$Link" (65) ⟨"SlottedMesh$Link", "failed", "(LSlottedMesh;)V"⟩ ∈ zTB := zin (List.mem_of_getElem? (i := 531) (by decide +kernel)) rfl
theorem v_500 : Cond.declares ⟨"SlottedMesh$Link", "failed", "(LSlottedMesh;)V"⟩ ∈ lw_tbl := List.mem_of_getElem? (i := 532) (by decide +kernel)
theorem w_501 : Cond.sameMethod "SlottedMesh$Link" "SlottedMesh$Link" "failed" "(LSlottedMesh;)V" ∈ zTB := zin (List.mem_of_getElem? (i := 533) (by decide +kernel)) rfl
theorem w_502 : Cond.selects "SlottedMesh$Down" ⟨"SlottedMesh$Link", "failed", "(LSlottedMesh;)V"⟩ ⟨"SlottedMesh$Down", "failed", "(LSlottedMesh;)V"⟩ ∈ zTB := zin (List.mem_of_getElem? (i := 534) (by decide +kernel)) rfl
theorem w_503 : Cond.instanceMethod ⟨"SlottedMesh$Down", "failed", "(LSlottedMesh;)V"⟩ ∈ zTB := zin (List.mem_of_getElem? (i := 535) (by decide +kernel)) rfl
theorem w_504 : Cond.code ⟨"SlottedMesh$Down", "failed", "(LSlottedMesh;)V"⟩ prog_4_method_6_code (2) none ∈ zTB := zin (List.mem_of_getElem? (i := 536) (by decide +kernel)) rfl
theorem w_505 : Cond.methodLink "SlottedMesh$Down" (84) ⟨"SlottedMesh$Down", "done", "(LSlottedMesh;)V"⟩ ∈ zTB := zin (List.mem_of_getElem? (i := 537) (by decide +kernel)) rfl
theorem w_506 : Cond.selects "SlottedMesh$Up" ⟨"SlottedMesh$Link", "failed", "(LSlottedMesh;)V"⟩ ⟨"SlottedMesh$Up", "failed", "(LSlottedMesh;)V"⟩ ∈ zTB := zin (List.mem_of_getElem? (i := 538) (by decide +kernel)) rfl
theorem w_507 : Cond.instanceMethod ⟨"SlottedMesh$Up", "failed", "(LSlottedMesh;)V"⟩ ∈ zTB := zin (List.mem_of_getElem? (i := 539) (by decide +kernel)) rfl
theorem w_508 : Cond.code ⟨"SlottedMesh$Up", "failed", "(LSlottedMesh;)V"⟩ prog_9_method_6_code (2) none ∈ zTB := zin (List.mem_of_getElem? (i := 540) (by decide +kernel)) rfl
theorem w_509 : Cond.selects "SlottedMesh$Up" ⟨"SlottedMesh$Cell", "go", "(LSlottedMesh;)V"⟩ ⟨"SlottedMesh$Link", "go", "(LSlottedMesh;)V"⟩ ∈ zTB := zin (List.mem_of_getElem? (i := 541) (by decide +kernel)) rfl
theorem w_510 : Cond.methodLink "SlottedMeshLaw" (67) ⟨"SlottedMesh", "rank", "(I)I"⟩ ∈ zTB := zin (List.mem_of_getElem? (i := 542) (by decide +kernel)) rfl
theorem w_511 : Cond.instanceMethod ⟨"SlottedMesh", "rank", "(I)I"⟩ ∈ zTB := zin (List.mem_of_getElem? (i := 543) (by decide +kernel)) rfl
theorem w_512 : Cond.selects "SlottedMesh" ⟨"SlottedMesh", "rank", "(I)I"⟩ ⟨"SlottedMesh", "rank", "(I)I"⟩ ∈ zTB := zin (List.mem_of_getElem? (i := 544) (by decide +kernel)) rfl
theorem w_513 : Cond.code ⟨"SlottedMesh", "rank", "(I)I"⟩ prog_1_method_29_code (3) (some .int) ∈ zTB := zin (List.mem_of_getElem? (i := 545) (by decide +kernel)) rfl
theorem w_514 : Cond.methodLink "SlottedMeshLaw" (71) ⟨"SlottedMesh", "parent", "(II)I"⟩ ∈ zTB := zin (List.mem_of_getElem? (i := 546) (by decide +kernel)) rfl
theorem w_515 : Cond.instanceMethod ⟨"SlottedMesh", "parent", "(II)I"⟩ ∈ zTB := zin (List.mem_of_getElem? (i := 547) (by decide +kernel)) rfl
theorem w_516 : Cond.selects "SlottedMesh" ⟨"SlottedMesh", "parent", "(II)I"⟩ ⟨"SlottedMesh", "parent", "(II)I"⟩ ∈ zTB := zin (List.mem_of_getElem? (i := 548) (by decide +kernel)) rfl
theorem w_517 : Cond.code ⟨"SlottedMesh", "parent", "(II)I"⟩ prog_1_method_30_code (5) (some .int) ∈ zTB := zin (List.mem_of_getElem? (i := 549) (by decide +kernel)) rfl
theorem w_518 : Cond.methodLink "SlottedMeshLaw" (75) ⟨"SlottedMesh", "cell", "(II)I"⟩ ∈ zTB := zin (List.mem_of_getElem? (i := 550) (by decide +kernel)) rfl
theorem w_519 : Cond.instanceMethod ⟨"SlottedMesh", "cell", "(II)I"⟩ ∈ zTB := zin (List.mem_of_getElem? (i := 551) (by decide +kernel)) rfl
theorem w_520 : Cond.selects "SlottedMesh" ⟨"SlottedMesh", "cell", "(II)I"⟩ ⟨"SlottedMesh", "cell", "(II)I"⟩ ∈ zTB := zin (List.mem_of_getElem? (i := 552) (by decide +kernel)) rfl
theorem w_521 : Cond.code ⟨"SlottedMesh", "cell", "(II)I"⟩ prog_1_method_31_code (4) (some .int) ∈ zTB := zin (List.mem_of_getElem? (i := 553) (by decide +kernel)) rfl
theorem w_522 : Cond.methodLink "SlottedMesh" (287) ⟨"SlottedMesh$Cell", "code", "()I"⟩ ∈ zTB := zin (List.mem_of_getElem? (i := 554) (by decide +kernel)) rfl
theorem v_523 : Cond.declares ⟨"SlottedMesh$Cell", "code", "()I"⟩ ∈ lw_tbl := List.mem_of_getElem? (i := 555) (by decide +kernel)
theorem w_524 : Cond.sameMethod "SlottedMesh$Cell" "SlottedMesh$Cell" "code" "()I" ∈ zTB := zin (List.mem_of_getElem? (i := 556) (by decide +kernel)) rfl
theorem w_525 : Cond.selects "SlottedMesh$Advert" ⟨"SlottedMesh$Cell", "code", "()I"⟩ ⟨"SlottedMesh$Advert", "code", "()I"⟩ ∈ zTB := zin (List.mem_of_getElem? (i := 557) (by decide +kernel)) rfl
theorem w_526 : Cond.instanceMethod ⟨"SlottedMesh$Advert", "code", "()I"⟩ ∈ zTB := zin (List.mem_of_getElem? (i := 558) (by decide +kernel)) rfl
theorem w_527 : Cond.code ⟨"SlottedMesh$Advert", "code", "()I"⟩ prog_2_method_2_code (1) (some .int) ∈ zTB := zin (List.mem_of_getElem? (i := 559) (by decide +kernel)) rfl
theorem w_528 : Cond.selects "SlottedMesh$Down" ⟨"SlottedMesh$Cell", "code", "()I"⟩ ⟨"SlottedMesh$Down", "code", "()I"⟩ ∈ zTB := zin (List.mem_of_getElem? (i := 560) (by decide +kernel)) rfl
theorem w_529 : Cond.instanceMethod ⟨"SlottedMesh$Down", "code", "()I"⟩ ∈ zTB := zin (List.mem_of_getElem? (i := 561) (by decide +kernel)) rfl
theorem w_530 : Cond.code ⟨"SlottedMesh$Down", "code", "()I"⟩ prog_4_method_2_code (1) (some .int) ∈ zTB := zin (List.mem_of_getElem? (i := 562) (by decide +kernel)) rfl
theorem w_531 : Cond.selects "SlottedMesh$Up" ⟨"SlottedMesh$Cell", "code", "()I"⟩ ⟨"SlottedMesh$Up", "code", "()I"⟩ ∈ zTB := zin (List.mem_of_getElem? (i := 563) (by decide +kernel)) rfl
theorem w_532 : Cond.instanceMethod ⟨"SlottedMesh$Up", "code", "()I"⟩ ∈ zTB := zin (List.mem_of_getElem? (i := 564) (by decide +kernel)) rfl
theorem w_533 : Cond.code ⟨"SlottedMesh$Up", "code", "()I"⟩ prog_9_method_2_code (1) (some .int) ∈ zTB := zin (List.mem_of_getElem? (i := 565) (by decide +kernel)) rfl
theorem w_534 : Cond.methodLink "SlottedMeshLaw" (78) ⟨"SlottedMesh", "current", "(I)Z"⟩ ∈ zTB := zin (List.mem_of_getElem? (i := 566) (by decide +kernel)) rfl
theorem w_535 : Cond.instanceMethod ⟨"SlottedMesh", "current", "(I)Z"⟩ ∈ zTB := zin (List.mem_of_getElem? (i := 567) (by decide +kernel)) rfl
theorem w_536 : Cond.selects "SlottedMesh" ⟨"SlottedMesh", "current", "(I)Z"⟩ ⟨"SlottedMesh", "current", "(I)Z"⟩ ∈ zTB := zin (List.mem_of_getElem? (i := 568) (by decide +kernel)) rfl
theorem w_537 : Cond.code ⟨"SlottedMesh", "current", "(I)Z"⟩ prog_1_method_32_code (3) (some .boolean) ∈ zTB := zin (List.mem_of_getElem? (i := 569) (by decide +kernel)) rfl
theorem w_538 : Cond.methodLink "SlottedMeshLaw" (82) ⟨"SlottedMesh", "offset", "(I)I"⟩ ∈ zTB := zin (List.mem_of_getElem? (i := 570) (by decide +kernel)) rfl
theorem w_539 : Cond.instanceMethod ⟨"SlottedMesh", "offset", "(I)I"⟩ ∈ zTB := zin (List.mem_of_getElem? (i := 571) (by decide +kernel)) rfl
theorem w_540 : Cond.selects "SlottedMesh" ⟨"SlottedMesh", "offset", "(I)I"⟩ ⟨"SlottedMesh", "offset", "(I)I"⟩ ∈ zTB := zin (List.mem_of_getElem? (i := 572) (by decide +kernel)) rfl
theorem w_541 : Cond.code ⟨"SlottedMesh", "offset", "(I)I"⟩ prog_1_method_33_code (3) (some .int) ∈ zTB := zin (List.mem_of_getElem? (i := 573) (by decide +kernel)) rfl
theorem w_542 : Cond.methodLink "SlottedMeshLaw" (86) ⟨"SlottedMesh", "count", "(II)I"⟩ ∈ zTB := zin (List.mem_of_getElem? (i := 574) (by decide +kernel)) rfl
theorem w_543 : Cond.instanceMethod ⟨"SlottedMesh", "count", "(II)I"⟩ ∈ zTB := zin (List.mem_of_getElem? (i := 575) (by decide +kernel)) rfl
theorem w_544 : Cond.selects "SlottedMesh" ⟨"SlottedMesh", "count", "(II)I"⟩ ⟨"SlottedMesh", "count", "(II)I"⟩ ∈ zTB := zin (List.mem_of_getElem? (i := 576) (by decide +kernel)) rfl
theorem w_545 : Cond.code ⟨"SlottedMesh", "count", "(II)I"⟩ prog_1_method_34_code (4) (some .int) ∈ zTB := zin (List.mem_of_getElem? (i := 577) (by decide +kernel)) rfl
theorem w_546 : Cond.methodLink "SlottedMeshLaw" (90) ⟨"SlottedMesh", "cached", "(II)I"⟩ ∈ zTB := zin (List.mem_of_getElem? (i := 578) (by decide +kernel)) rfl
theorem w_547 : Cond.instanceMethod ⟨"SlottedMesh", "cached", "(II)I"⟩ ∈ zTB := zin (List.mem_of_getElem? (i := 579) (by decide +kernel)) rfl
theorem w_548 : Cond.selects "SlottedMesh" ⟨"SlottedMesh", "cached", "(II)I"⟩ ⟨"SlottedMesh", "cached", "(II)I"⟩ ∈ zTB := zin (List.mem_of_getElem? (i := 580) (by decide +kernel)) rfl
theorem w_549 : Cond.code ⟨"SlottedMesh", "cached", "(II)I"⟩ prog_1_method_35_code (3) (some .int) ∈ zTB := zin (List.mem_of_getElem? (i := 581) (by decide +kernel)) rfl
theorem w_550 : Cond.methodLink "SlottedMeshLaw" (94) ⟨"SlottedMesh", "latest", "(I)I"⟩ ∈ zTB := zin (List.mem_of_getElem? (i := 582) (by decide +kernel)) rfl
theorem w_551 : Cond.instanceMethod ⟨"SlottedMesh", "latest", "(I)I"⟩ ∈ zTB := zin (List.mem_of_getElem? (i := 583) (by decide +kernel)) rfl
theorem w_552 : Cond.selects "SlottedMesh" ⟨"SlottedMesh", "latest", "(I)I"⟩ ⟨"SlottedMesh", "latest", "(I)I"⟩ ∈ zTB := zin (List.mem_of_getElem? (i := 584) (by decide +kernel)) rfl
theorem w_553 : Cond.code ⟨"SlottedMesh", "latest", "(I)I"⟩ prog_1_method_36_code (3) (some .int) ∈ zTB := zin (List.mem_of_getElem? (i := 585) (by decide +kernel)) rfl
theorem w_554 : Cond.methodLink "SlottedMeshLaw" (98) ⟨"SlottedMesh", "actuator", "(I)I"⟩ ∈ zTB := zin (List.mem_of_getElem? (i := 586) (by decide +kernel)) rfl
theorem w_555 : Cond.instanceMethod ⟨"SlottedMesh", "actuator", "(I)I"⟩ ∈ zTB := zin (List.mem_of_getElem? (i := 587) (by decide +kernel)) rfl
theorem w_556 : Cond.selects "SlottedMesh" ⟨"SlottedMesh", "actuator", "(I)I"⟩ ⟨"SlottedMesh", "actuator", "(I)I"⟩ ∈ zTB := zin (List.mem_of_getElem? (i := 588) (by decide +kernel)) rfl
theorem w_557 : Cond.code ⟨"SlottedMesh", "actuator", "(I)I"⟩ prog_1_method_37_code (3) (some .int) ∈ zTB := zin (List.mem_of_getElem? (i := 589) (by decide +kernel)) rfl
theorem w_558 : Cond.methodLink "SlottedMeshLaw" (102) ⟨"SlottedMesh", "sent", "()I"⟩ ∈ zTB := zin (List.mem_of_getElem? (i := 590) (by decide +kernel)) rfl
theorem w_559 : Cond.instanceMethod ⟨"SlottedMesh", "sent", "()I"⟩ ∈ zTB := zin (List.mem_of_getElem? (i := 591) (by decide +kernel)) rfl
theorem w_560 : Cond.selects "SlottedMesh" ⟨"SlottedMesh", "sent", "()I"⟩ ⟨"SlottedMesh", "sent", "()I"⟩ ∈ zTB := zin (List.mem_of_getElem? (i := 592) (by decide +kernel)) rfl
theorem w_561 : Cond.code ⟨"SlottedMesh", "sent", "()I"⟩ prog_1_method_38_code (1) (some .int) ∈ zTB := zin (List.mem_of_getElem? (i := 593) (by decide +kernel)) rfl
theorem w_562 : Cond.methodLink "SlottedMeshLaw" (9) ⟨"SlottedMeshLaw", "cell", "([II)I"⟩ ∈ zTB := zin (List.mem_of_getElem? (i := 594) (by decide +kernel)) rfl
theorem w_563 : Cond.static ⟨"SlottedMeshLaw", "cell", "([II)I"⟩ ∈ zTB := zin (List.mem_of_getElem? (i := 595) (by decide +kernel)) rfl
theorem w_564 : Cond.code ⟨"SlottedMeshLaw", "cell", "([II)I"⟩ method_2_code (2) (some .int) ∈ zTB := zin (List.mem_of_getElem? (i := 596) (by decide +kernel)) rfl
theorem w_565 : Cond.classLink "SlottedMeshLaw" (18) "SlottedMeshModel" ∈ zTB := zin (List.mem_of_getElem? (i := 597) (by decide +kernel)) rfl
theorem w_566 : Cond.instantiable "SlottedMeshModel" (34) ∈ zTB := zin (List.mem_of_getElem? (i := 598) (by decide +kernel)) rfl
theorem w_567 : Cond.methodLink "SlottedMeshLaw" (20) ⟨"SlottedMeshModel", "<init>", "(III)V"⟩ ∈ zTB := zin (List.mem_of_getElem? (i := 599) (by decide +kernel)) rfl
theorem w_568 : Cond.instanceMethod ⟨"SlottedMeshModel", "<init>", "(III)V"⟩ ∈ zTB := zin (List.mem_of_getElem? (i := 600) (by decide +kernel)) rfl
theorem w_569 : Cond.code ⟨"SlottedMeshModel", "<init>", "(III)V"⟩ prog_11_method_1_code (5) none ∈ zTB := zin (List.mem_of_getElem? (i := 601) (by decide +kernel)) rfl
theorem w_570 : Cond.methodLink "SlottedMeshModel" (1) ⟨"java/lang/Object", "<init>", "()V"⟩ ∈ zTB := zin (List.mem_of_getElem? (i := 602) (by decide +kernel)) rfl
theorem w_571 : Cond.constantLong "SlottedMeshModel" (106) (-1 : Int64) ∈ zTB := zin (List.mem_of_getElem? (i := 603) (by decide +kernel)) rfl
theorem w_572 : Cond.fieldLink "SlottedMeshModel" (96) "SlottedMeshModel" "nodes" "I" ∈ zTB := zin (List.mem_of_getElem? (i := 604) (by decide +kernel)) rfl
theorem w_573 : Cond.fieldLink "SlottedMeshModel" (100) "SlottedMeshModel" "slots" "I" ∈ zTB := zin (List.mem_of_getElem? (i := 605) (by decide +kernel)) rfl
theorem w_574 : Cond.fieldLink "SlottedMeshModel" (103) "SlottedMeshModel" "channels" "I" ∈ zTB := zin (List.mem_of_getElem? (i := 606) (by decide +kernel)) rfl
theorem w_575 : Cond.fieldLink "SlottedMeshModel" (147) "SlottedMeshModel" "time" "I" ∈ zTB := zin (List.mem_of_getElem? (i := 607) (by decide +kernel)) rfl
theorem w_576 : Cond.fieldLink "SlottedMeshModel" (158) "SlottedMeshModel" "sends" "I" ∈ zTB := zin (List.mem_of_getElem? (i := 608) (by decide +kernel)) rfl
theorem w_577 : Cond.fieldLink "SlottedMeshModel" (7) "SlottedMeshModel" "near" "[Z" ∈ zTB := zin (List.mem_of_getElem? (i := 609) (by decide +kernel)) rfl
theorem w_578 : Cond.fieldLink "SlottedMeshModel" (13) "SlottedMeshModel" "started" "[Z" ∈ zTB := zin (List.mem_of_getElem? (i := 610) (by decide +kernel)) rfl
theorem w_579 : Cond.fieldLink "SlottedMeshModel" (16) "SlottedMeshModel" "current" "[Z" ∈ zTB := zin (List.mem_of_getElem? (i := 611) (by decide +kernel)) rfl
theorem w_580 : Cond.fieldLink "SlottedMeshModel" (19) "SlottedMeshModel" "offset" "[I" ∈ zTB := zin (List.mem_of_getElem? (i := 612) (by decide +kernel)) rfl
theorem w_581 : Cond.fieldLink "SlottedMeshModel" (23) "SlottedMeshModel" "drift" "[I" ∈ zTB := zin (List.mem_of_getElem? (i := 613) (by decide +kernel)) rfl
theorem w_582 : Cond.fieldLink "SlottedMeshModel" (26) "SlottedMeshModel" "heard" "[J" ∈ zTB := zin (List.mem_of_getElem? (i := 614) (by decide +kernel)) rfl
theorem w_583 : Cond.fieldLink "SlottedMeshModel" (30) "SlottedMeshModel" "confirmed" "[J" ∈ zTB := zin (List.mem_of_getElem? (i := 615) (by decide +kernel)) rfl
theorem w_584 : Cond.fieldLink "SlottedMeshModel" (135) "SlottedMeshModel" "planned" "Z" ∈ zTB := zin (List.mem_of_getElem? (i := 616) (by decide +kernel)) rfl
theorem w_585 : Cond.fieldLink "SlottedMeshModel" (33) "SlottedMeshModel" "rank" "[I" ∈ zTB := zin (List.mem_of_getElem? (i := 617) (by decide +kernel)) rfl
theorem w_586 : Cond.fieldLink "SlottedMeshModel" (36) "SlottedMeshModel" "parents" "[I" ∈ zTB := zin (List.mem_of_getElem? (i := 618) (by decide +kernel)) rfl
theorem w_587 : Cond.fieldLink "SlottedMeshModel" (39) "SlottedMeshModel" "cells" "[I" ∈ zTB := zin (List.mem_of_getElem? (i := 619) (by decide +kernel)) rfl
theorem w_588 : Cond.fieldLink "SlottedMeshModel" (42) "SlottedMeshModel" "newRank" "[I" ∈ zTB := zin (List.mem_of_getElem? (i := 620) (by decide +kernel)) rfl
theorem w_589 : Cond.fieldLink "SlottedMeshModel" (45) "SlottedMeshModel" "newParents" "[I" ∈ zTB := zin (List.mem_of_getElem? (i := 621) (by decide +kernel)) rfl
theorem w_590 : Cond.fieldLink "SlottedMeshModel" (48) "SlottedMeshModel" "newCells" "[I" ∈ zTB := zin (List.mem_of_getElem? (i := 622) (by decide +kernel)) rfl
theorem w_591 : Cond.fieldLink "SlottedMeshModel" (51) "SlottedMeshModel" "many" "[I" ∈ zTB := zin (List.mem_of_getElem? (i := 623) (by decide +kernel)) rfl
theorem w_592 : Cond.fieldLink "SlottedMeshModel" (54) "SlottedMeshModel" "end" "[I" ∈ zTB := zin (List.mem_of_getElem? (i := 624) (by decide +kernel)) rfl
theorem w_593 : Cond.fieldLink "SlottedMeshModel" (57) "SlottedMeshModel" "number" "[I" ∈ zTB := zin (List.mem_of_getElem? (i := 625) (by decide +kernel)) rfl
theorem w_594 : Cond.fieldLink "SlottedMeshModel" (60) "SlottedMeshModel" "value" "[I" ∈ zTB := zin (List.mem_of_getElem? (i := 626) (by decide +kernel)) rfl
theorem w_595 : Cond.fieldLink "SlottedMeshModel" (63) "SlottedMeshModel" "fails" "[I" ∈ zTB := zin (List.mem_of_getElem? (i := 627) (by decide +kernel)) rfl
theorem w_596 : Cond.fieldLink "SlottedMeshModel" (66) "SlottedMeshModel" "tries" "[I" ∈ zTB := zin (List.mem_of_getElem? (i := 628) (by decide +kernel)) rfl
theorem w_597 : Cond.fieldLink "SlottedMeshModel" (69) "SlottedMeshModel" "took" "[I" ∈ zTB := zin (List.mem_of_getElem? (i := 629) (by decide +kernel)) rfl
theorem w_598 : Cond.fieldLink "SlottedMeshModel" (72) "SlottedMeshModel" "counted" "[I" ∈ zTB := zin (List.mem_of_getElem? (i := 630) (by decide +kernel)) rfl
theorem w_599 : Cond.fieldLink "SlottedMeshModel" (75) "SlottedMeshModel" "kept" "[I" ∈ zTB := zin (List.mem_of_getElem? (i := 631) (by decide +kernel)) rfl
theorem w_600 : Cond.fieldLink "SlottedMeshModel" (78) "SlottedMeshModel" "keeps" "[I" ∈ zTB := zin (List.mem_of_getElem? (i := 632) (by decide +kernel)) rfl
theorem w_601 : Cond.fieldLink "SlottedMeshModel" (81) "SlottedMeshModel" "target" "[I" ∈ zTB := zin (List.mem_of_getElem? (i := 633) (by decide +kernel)) rfl
theorem w_602 : Cond.fieldLink "SlottedMeshModel" (84) "SlottedMeshModel" "ps" "[I" ∈ zTB := zin (List.mem_of_getElem? (i := 634) (by decide +kernel)) rfl
theorem w_603 : Cond.fieldLink "SlottedMeshModel" (87) "SlottedMeshModel" "is" "[I" ∈ zTB := zin (List.mem_of_getElem? (i := 635) (by decide +kernel)) rfl
theorem w_604 : Cond.fieldLink "SlottedMeshModel" (90) "SlottedMeshModel" "sum" "[I" ∈ zTB := zin (List.mem_of_getElem? (i := 636) (by decide +kernel)) rfl
theorem w_605 : Cond.fieldLink "SlottedMeshModel" (93) "SlottedMeshModel" "actuators" "[I" ∈ zTB := zin (List.mem_of_getElem? (i := 637) (by decide +kernel)) rfl
theorem w_675 : Cond.methodLink "SlottedMeshLaw" (25) ⟨"SlottedMeshModel", "pair", "(IIZ)Z"⟩ ∈ zTB := zin (List.mem_of_getElem? (i := 707) (by decide +kernel)) rfl
theorem w_676 : Cond.instanceMethod ⟨"SlottedMeshModel", "pair", "(IIZ)Z"⟩ ∈ zTB := zin (List.mem_of_getElem? (i := 708) (by decide +kernel)) rfl
theorem w_677 : Cond.selects "SlottedMeshModel" ⟨"SlottedMeshModel", "pair", "(IIZ)Z"⟩ ⟨"SlottedMeshModel", "pair", "(IIZ)Z"⟩ ∈ zTB := zin (List.mem_of_getElem? (i := 709) (by decide +kernel)) rfl
theorem w_678 : Cond.code ⟨"SlottedMeshModel", "pair", "(IIZ)Z"⟩ prog_11_method_3_code (4) (some .boolean) ∈ zTB := zin (List.mem_of_getElem? (i := 710) (by decide +kernel)) rfl
theorem w_679 : Cond.methodLink "SlottedMeshModel" (108) ⟨"SlottedMeshModel", "noNode", "(I)Z"⟩ ∈ zTB := zin (List.mem_of_getElem? (i := 711) (by decide +kernel)) rfl
theorem w_681 : Cond.instanceMethod ⟨"SlottedMeshModel", "noNode", "(I)Z"⟩ ∈ zTB := zin (List.mem_of_getElem? (i := 713) (by decide +kernel)) rfl
theorem w_682 : Cond.code ⟨"SlottedMeshModel", "noNode", "(I)Z"⟩ prog_11_method_2_code (2) (some .boolean) ∈ zTB := zin (List.mem_of_getElem? (i := 714) (by decide +kernel)) rfl
theorem w_683 : Cond.methodLink "SlottedMeshLaw" (30) ⟨"SlottedMeshModel", "plan", "()I"⟩ ∈ zTB := zin (List.mem_of_getElem? (i := 715) (by decide +kernel)) rfl
theorem w_684 : Cond.instanceMethod ⟨"SlottedMeshModel", "plan", "()I"⟩ ∈ zTB := zin (List.mem_of_getElem? (i := 716) (by decide +kernel)) rfl
theorem w_685 : Cond.selects "SlottedMeshModel" ⟨"SlottedMeshModel", "plan", "()I"⟩ ⟨"SlottedMeshModel", "plan", "()I"⟩ ∈ zTB := zin (List.mem_of_getElem? (i := 717) (by decide +kernel)) rfl
theorem w_686 : Cond.code ⟨"SlottedMeshModel", "plan", "()I"⟩ prog_11_method_11_code (3) (some .int) ∈ zTB := zin (List.mem_of_getElem? (i := 718) (by decide +kernel)) rfl
theorem w_687 : Cond.methodLink "SlottedMeshModel" (125) ⟨"SlottedMeshModel", "ranks", "()Z"⟩ ∈ zTB := zin (List.mem_of_getElem? (i := 719) (by decide +kernel)) rfl
theorem w_689 : Cond.instanceMethod ⟨"SlottedMeshModel", "ranks", "()Z"⟩ ∈ zTB := zin (List.mem_of_getElem? (i := 721) (by decide +kernel)) rfl
theorem w_690 : Cond.code ⟨"SlottedMeshModel", "ranks", "()Z"⟩ prog_11_method_4_code (4) (some .boolean) ∈ zTB := zin (List.mem_of_getElem? (i := 722) (by decide +kernel)) rfl
theorem w_691 : Cond.methodLink "SlottedMeshModel" (129) ⟨"SlottedMeshModel", "findParents", "()V"⟩ ∈ zTB := zin (List.mem_of_getElem? (i := 723) (by decide +kernel)) rfl
theorem w_693 : Cond.instanceMethod ⟨"SlottedMeshModel", "findParents", "()V"⟩ ∈ zTB := zin (List.mem_of_getElem? (i := 725) (by decide +kernel)) rfl
theorem w_694 : Cond.code ⟨"SlottedMeshModel", "findParents", "()V"⟩ prog_11_method_5_code (4) none ∈ zTB := zin (List.mem_of_getElem? (i := 726) (by decide +kernel)) rfl
theorem w_695 : Cond.methodLink "SlottedMeshModel" (132) ⟨"SlottedMeshModel", "placeAll", "()Z"⟩ ∈ zTB := zin (List.mem_of_getElem? (i := 727) (by decide +kernel)) rfl
theorem w_697 : Cond.instanceMethod ⟨"SlottedMeshModel", "placeAll", "()Z"⟩ ∈ zTB := zin (List.mem_of_getElem? (i := 729) (by decide +kernel)) rfl
theorem w_698 : Cond.code ⟨"SlottedMeshModel", "placeAll", "()Z"⟩ prog_11_method_10_code (6) (some .boolean) ∈ zTB := zin (List.mem_of_getElem? (i := 730) (by decide +kernel)) rfl
theorem w_699 : Cond.methodLink "SlottedMeshModel" (119) ⟨"SlottedMeshModel", "placeAdvert", "(I)Z"⟩ ∈ zTB := zin (List.mem_of_getElem? (i := 731) (by decide +kernel)) rfl
theorem w_701 : Cond.instanceMethod ⟨"SlottedMeshModel", "placeAdvert", "(I)Z"⟩ ∈ zTB := zin (List.mem_of_getElem? (i := 733) (by decide +kernel)) rfl
theorem w_702 : Cond.code ⟨"SlottedMeshModel", "placeAdvert", "(I)Z"⟩ prog_11_method_8_code (4) (some .boolean) ∈ zTB := zin (List.mem_of_getElem? (i := 734) (by decide +kernel)) rfl
theorem w_703 : Cond.methodLink "SlottedMeshModel" (122) ⟨"SlottedMeshModel", "place", "(I)Z"⟩ ∈ zTB := zin (List.mem_of_getElem? (i := 735) (by decide +kernel)) rfl
theorem w_705 : Cond.instanceMethod ⟨"SlottedMeshModel", "place", "(I)Z"⟩ ∈ zTB := zin (List.mem_of_getElem? (i := 737) (by decide +kernel)) rfl
theorem w_706 : Cond.code ⟨"SlottedMeshModel", "place", "(I)Z"⟩ prog_11_method_9_code (8) (some .boolean) ∈ zTB := zin (List.mem_of_getElem? (i := 738) (by decide +kernel)) rfl
theorem w_707 : Cond.methodLink "SlottedMeshModel" (112) ⟨"SlottedMeshModel", "first", "(I)I"⟩ ∈ zTB := zin (List.mem_of_getElem? (i := 739) (by decide +kernel)) rfl
theorem w_708 : Cond.static ⟨"SlottedMeshModel", "first", "(I)I"⟩ ∈ zTB := zin (List.mem_of_getElem? (i := 740) (by decide +kernel)) rfl
theorem w_709 : Cond.code ⟨"SlottedMeshModel", "first", "(I)I"⟩ prog_11_method_6_code (1) (some .int) ∈ zTB := zin (List.mem_of_getElem? (i := 741) (by decide +kernel)) rfl
theorem w_710 : Cond.methodLink "SlottedMeshModel" (116) ⟨"SlottedMeshModel", "second", "(I)I"⟩ ∈ zTB := zin (List.mem_of_getElem? (i := 742) (by decide +kernel)) rfl
theorem w_711 : Cond.static ⟨"SlottedMeshModel", "second", "(I)I"⟩ ∈ zTB := zin (List.mem_of_getElem? (i := 743) (by decide +kernel)) rfl
theorem w_712 : Cond.code ⟨"SlottedMeshModel", "second", "(I)I"⟩ prog_11_method_7_code (1) (some .int) ∈ zTB := zin (List.mem_of_getElem? (i := 744) (by decide +kernel)) rfl
theorem w_713 : Cond.methodLink "SlottedMeshLaw" (35) ⟨"SlottedMeshModel", "start", "(I)Z"⟩ ∈ zTB := zin (List.mem_of_getElem? (i := 745) (by decide +kernel)) rfl
theorem w_714 : Cond.instanceMethod ⟨"SlottedMeshModel", "start", "(I)Z"⟩ ∈ zTB := zin (List.mem_of_getElem? (i := 746) (by decide +kernel)) rfl
theorem w_715 : Cond.selects "SlottedMeshModel" ⟨"SlottedMeshModel", "start", "(I)Z"⟩ ⟨"SlottedMeshModel", "start", "(I)Z"⟩ ∈ zTB := zin (List.mem_of_getElem? (i := 747) (by decide +kernel)) rfl
theorem w_716 : Cond.code ⟨"SlottedMeshModel", "start", "(I)Z"⟩ prog_11_method_12_code (2) (some .boolean) ∈ zTB := zin (List.mem_of_getElem? (i := 748) (by decide +kernel)) rfl
theorem w_717 : Cond.methodLink "SlottedMeshLaw" (39) ⟨"SlottedMeshModel", "stop", "(I)Z"⟩ ∈ zTB := zin (List.mem_of_getElem? (i := 749) (by decide +kernel)) rfl
theorem w_718 : Cond.instanceMethod ⟨"SlottedMeshModel", "stop", "(I)Z"⟩ ∈ zTB := zin (List.mem_of_getElem? (i := 750) (by decide +kernel)) rfl
theorem w_719 : Cond.selects "SlottedMeshModel" ⟨"SlottedMeshModel", "stop", "(I)Z"⟩ ⟨"SlottedMeshModel", "stop", "(I)Z"⟩ ∈ zTB := zin (List.mem_of_getElem? (i := 751) (by decide +kernel)) rfl
theorem w_720 : Cond.code ⟨"SlottedMeshModel", "stop", "(I)Z"⟩ prog_11_method_13_code (3) (some .boolean) ∈ zTB := zin (List.mem_of_getElem? (i := 752) (by decide +kernel)) rfl
theorem w_721 : Cond.methodLink "SlottedMeshLaw" (44) ⟨"SlottedMeshModel", "drift", "(II)Z"⟩ ∈ zTB := zin (List.mem_of_getElem? (i := 753) (by decide +kernel)) rfl
theorem w_722 : Cond.instanceMethod ⟨"SlottedMeshModel", "drift", "(II)Z"⟩ ∈ zTB := zin (List.mem_of_getElem? (i := 754) (by decide +kernel)) rfl
theorem w_723 : Cond.selects "SlottedMeshModel" ⟨"SlottedMeshModel", "drift", "(II)Z"⟩ ⟨"SlottedMeshModel", "drift", "(II)Z"⟩ ∈ zTB := zin (List.mem_of_getElem? (i := 755) (by decide +kernel)) rfl
theorem w_724 : Cond.code ⟨"SlottedMeshModel", "drift", "(II)Z"⟩ prog_11_method_14_code (3) (some .boolean) ∈ zTB := zin (List.mem_of_getElem? (i := 756) (by decide +kernel)) rfl
theorem w_725 : Cond.methodLink "SlottedMeshLaw" (51) ⟨"SlottedMeshModel", "radio", "(IJJ)Z"⟩ ∈ zTB := zin (List.mem_of_getElem? (i := 757) (by decide +kernel)) rfl
theorem w_726 : Cond.instanceMethod ⟨"SlottedMeshModel", "radio", "(IJJ)Z"⟩ ∈ zTB := zin (List.mem_of_getElem? (i := 758) (by decide +kernel)) rfl
theorem w_727 : Cond.selects "SlottedMeshModel" ⟨"SlottedMeshModel", "radio", "(IJJ)Z"⟩ ⟨"SlottedMeshModel", "radio", "(IJJ)Z"⟩ ∈ zTB := zin (List.mem_of_getElem? (i := 759) (by decide +kernel)) rfl
theorem w_728 : Cond.code ⟨"SlottedMeshModel", "radio", "(IJJ)Z"⟩ prog_11_method_15_code (6) (some .boolean) ∈ zTB := zin (List.mem_of_getElem? (i := 760) (by decide +kernel)) rfl
theorem w_729 : Cond.methodLink "SlottedMeshLaw" (56) ⟨"SlottedMeshModel", "sample", "(II)I"⟩ ∈ zTB := zin (List.mem_of_getElem? (i := 761) (by decide +kernel)) rfl
theorem w_730 : Cond.instanceMethod ⟨"SlottedMeshModel", "sample", "(II)I"⟩ ∈ zTB := zin (List.mem_of_getElem? (i := 762) (by decide +kernel)) rfl
theorem w_731 : Cond.selects "SlottedMeshModel" ⟨"SlottedMeshModel", "sample", "(II)I"⟩ ⟨"SlottedMeshModel", "sample", "(II)I"⟩ ∈ zTB := zin (List.mem_of_getElem? (i := 763) (by decide +kernel)) rfl
theorem w_732 : Cond.code ⟨"SlottedMeshModel", "sample", "(II)I"⟩ prog_11_method_18_code (3) (some .int) ∈ zTB := zin (List.mem_of_getElem? (i := 764) (by decide +kernel)) rfl
theorem w_733 : Cond.methodLink "SlottedMeshModel" (139) ⟨"SlottedMeshModel", "add", "(IIII)V"⟩ ∈ zTB := zin (List.mem_of_getElem? (i := 765) (by decide +kernel)) rfl
theorem w_735 : Cond.instanceMethod ⟨"SlottedMeshModel", "add", "(IIII)V"⟩ ∈ zTB := zin (List.mem_of_getElem? (i := 767) (by decide +kernel)) rfl
theorem w_736 : Cond.code ⟨"SlottedMeshModel", "add", "(IIII)V"⟩ prog_11_method_16_code (6) none ∈ zTB := zin (List.mem_of_getElem? (i := 768) (by decide +kernel)) rfl
theorem w_737 : Cond.methodLink "SlottedMeshLaw" (61) ⟨"SlottedMeshModel", "control", "(IIII)Z"⟩ ∈ zTB := zin (List.mem_of_getElem? (i := 769) (by decide +kernel)) rfl
theorem w_738 : Cond.instanceMethod ⟨"SlottedMeshModel", "control", "(IIII)Z"⟩ ∈ zTB := zin (List.mem_of_getElem? (i := 770) (by decide +kernel)) rfl
theorem w_739 : Cond.selects "SlottedMeshModel" ⟨"SlottedMeshModel", "control", "(IIII)Z"⟩ ⟨"SlottedMeshModel", "control", "(IIII)Z"⟩ ∈ zTB := zin (List.mem_of_getElem? (i := 771) (by decide +kernel)) rfl
theorem w_740 : Cond.code ⟨"SlottedMeshModel", "control", "(IIII)Z"⟩ prog_11_method_19_code (5) (some .boolean) ∈ zTB := zin (List.mem_of_getElem? (i := 772) (by decide +kernel)) rfl
theorem w_741 : Cond.methodLink "SlottedMeshLaw" (66) ⟨"SlottedMeshModel", "run", "(I)I"⟩ ∈ zTB := zin (List.mem_of_getElem? (i := 773) (by decide +kernel)) rfl
theorem w_742 : Cond.instanceMethod ⟨"SlottedMeshModel", "run", "(I)I"⟩ ∈ zTB := zin (List.mem_of_getElem? (i := 774) (by decide +kernel)) rfl
theorem w_743 : Cond.selects "SlottedMeshModel" ⟨"SlottedMeshModel", "run", "(I)I"⟩ ⟨"SlottedMeshModel", "run", "(I)I"⟩ ∈ zTB := zin (List.mem_of_getElem? (i := 775) (by decide +kernel)) rfl
theorem w_744 : Cond.code ⟨"SlottedMeshModel", "run", "(I)I"⟩ prog_11_method_30_code (3) (some .int) ∈ zTB := zin (List.mem_of_getElem? (i := 776) (by decide +kernel)) rfl
theorem w_745 : Cond.methodLink "SlottedMeshModel" (185) ⟨"SlottedMeshModel", "slot", "()V"⟩ ∈ zTB := zin (List.mem_of_getElem? (i := 777) (by decide +kernel)) rfl
theorem w_747 : Cond.instanceMethod ⟨"SlottedMeshModel", "slot", "()V"⟩ ∈ zTB := zin (List.mem_of_getElem? (i := 779) (by decide +kernel)) rfl
theorem w_748 : Cond.code ⟨"SlottedMeshModel", "slot", "()V"⟩ prog_11_method_29_code (6) none ∈ zTB := zin (List.mem_of_getElem? (i := 780) (by decide +kernel)) rfl
theorem w_749 : Cond.methodLink "SlottedMeshModel" (176) ⟨"SlottedMeshModel", "advert", "(I)V"⟩ ∈ zTB := zin (List.mem_of_getElem? (i := 781) (by decide +kernel)) rfl
theorem w_751 : Cond.instanceMethod ⟨"SlottedMeshModel", "advert", "(I)V"⟩ ∈ zTB := zin (List.mem_of_getElem? (i := 783) (by decide +kernel)) rfl
theorem w_752 : Cond.code ⟨"SlottedMeshModel", "advert", "(I)V"⟩ prog_11_method_24_code (3) none ∈ zTB := zin (List.mem_of_getElem? (i := 784) (by decide +kernel)) rfl
theorem w_753 : Cond.methodLink "SlottedMeshModel" (150) ⟨"SlottedMeshModel", "bit", "(JI)Z"⟩ ∈ zTB := zin (List.mem_of_getElem? (i := 785) (by decide +kernel)) rfl
theorem w_754 : Cond.static ⟨"SlottedMeshModel", "bit", "(JI)Z"⟩ ∈ zTB := zin (List.mem_of_getElem? (i := 786) (by decide +kernel)) rfl
theorem w_755 : Cond.code ⟨"SlottedMeshModel", "bit", "(JI)Z"⟩ prog_11_method_22_code (3) (some .boolean) ∈ zTB := zin (List.mem_of_getElem? (i := 787) (by decide +kernel)) rfl
theorem w_756 : Cond.methodLink "SlottedMeshModel" (154) ⟨"SlottedMeshModel", "close", "(II)Z"⟩ ∈ zTB := zin (List.mem_of_getElem? (i := 788) (by decide +kernel)) rfl
theorem w_758 : Cond.instanceMethod ⟨"SlottedMeshModel", "close", "(II)Z"⟩ ∈ zTB := zin (List.mem_of_getElem? (i := 790) (by decide +kernel)) rfl
theorem w_759 : Cond.code ⟨"SlottedMeshModel", "close", "(II)Z"⟩ prog_11_method_23_code (4) (some .boolean) ∈ zTB := zin (List.mem_of_getElem? (i := 791) (by decide +kernel)) rfl
theorem w_760 : Cond.methodLink "SlottedMeshModel" (179) ⟨"SlottedMeshModel", "down", "(III)V"⟩ ∈ zTB := zin (List.mem_of_getElem? (i := 792) (by decide +kernel)) rfl
theorem w_762 : Cond.instanceMethod ⟨"SlottedMeshModel", "down", "(III)V"⟩ ∈ zTB := zin (List.mem_of_getElem? (i := 794) (by decide +kernel)) rfl
theorem w_763 : Cond.code ⟨"SlottedMeshModel", "down", "(III)V"⟩ prog_11_method_28_code (8) none ∈ zTB := zin (List.mem_of_getElem? (i := 795) (by decide +kernel)) rfl
theorem w_764 : Cond.methodLink "SlottedMeshModel" (173) ⟨"SlottedMeshModel", "below", "(II)Z"⟩ ∈ zTB := zin (List.mem_of_getElem? (i := 796) (by decide +kernel)) rfl
theorem w_766 : Cond.instanceMethod ⟨"SlottedMeshModel", "below", "(II)Z"⟩ ∈ zTB := zin (List.mem_of_getElem? (i := 798) (by decide +kernel)) rfl
theorem w_767 : Cond.code ⟨"SlottedMeshModel", "below", "(II)Z"⟩ prog_11_method_27_code (5) (some .boolean) ∈ zTB := zin (List.mem_of_getElem? (i := 799) (by decide +kernel)) rfl
theorem w_768 : Cond.methodLink "SlottedMeshModel" (161) ⟨"SlottedMeshModel", "hears", "(III)Z"⟩ ∈ zTB := zin (List.mem_of_getElem? (i := 800) (by decide +kernel)) rfl
theorem w_770 : Cond.instanceMethod ⟨"SlottedMeshModel", "hears", "(III)Z"⟩ ∈ zTB := zin (List.mem_of_getElem? (i := 802) (by decide +kernel)) rfl
theorem w_771 : Cond.code ⟨"SlottedMeshModel", "hears", "(III)Z"⟩ prog_11_method_25_code (4) (some .boolean) ∈ zTB := zin (List.mem_of_getElem? (i := 803) (by decide +kernel)) rfl
theorem w_772 : Cond.methodLink "SlottedMeshModel" (169) ⟨"SlottedMeshModel", "leave", "(I)V"⟩ ∈ zTB := zin (List.mem_of_getElem? (i := 804) (by decide +kernel)) rfl
theorem w_774 : Cond.instanceMethod ⟨"SlottedMeshModel", "leave", "(I)V"⟩ ∈ zTB := zin (List.mem_of_getElem? (i := 806) (by decide +kernel)) rfl
theorem w_775 : Cond.code ⟨"SlottedMeshModel", "leave", "(I)V"⟩ prog_11_method_17_code (3) none ∈ zTB := zin (List.mem_of_getElem? (i := 807) (by decide +kernel)) rfl
theorem w_776 : Cond.methodLink "SlottedMeshModel" (182) ⟨"SlottedMeshModel", "up", "(III)V"⟩ ∈ zTB := zin (List.mem_of_getElem? (i := 808) (by decide +kernel)) rfl
theorem w_778 : Cond.instanceMethod ⟨"SlottedMeshModel", "up", "(III)V"⟩ ∈ zTB := zin (List.mem_of_getElem? (i := 810) (by decide +kernel)) rfl
theorem w_779 : Cond.code ⟨"SlottedMeshModel", "up", "(III)V"⟩ prog_11_method_26_code (7) none ∈ zTB := zin (List.mem_of_getElem? (i := 811) (by decide +kernel)) rfl
theorem w_780 : Cond.methodLink "SlottedMeshModel" (165) ⟨"SlottedMeshModel", "cache", "(III)V"⟩ ∈ zTB := zin (List.mem_of_getElem? (i := 812) (by decide +kernel)) rfl
theorem w_782 : Cond.instanceMethod ⟨"SlottedMeshModel", "cache", "(III)V"⟩ ∈ zTB := zin (List.mem_of_getElem? (i := 814) (by decide +kernel)) rfl
theorem w_783 : Cond.code ⟨"SlottedMeshModel", "cache", "(III)V"⟩ prog_11_method_21_code (7) none ∈ zTB := zin (List.mem_of_getElem? (i := 815) (by decide +kernel)) rfl
theorem w_784 : Cond.methodLink "SlottedMeshModel" (143) ⟨"SlottedMeshModel", "within", "(II)I"⟩ ∈ zTB := zin (List.mem_of_getElem? (i := 816) (by decide +kernel)) rfl
theorem w_785 : Cond.static ⟨"SlottedMeshModel", "within", "(II)I"⟩ ∈ zTB := zin (List.mem_of_getElem? (i := 817) (by decide +kernel)) rfl
theorem w_786 : Cond.code ⟨"SlottedMeshModel", "within", "(II)I"⟩ prog_11_method_20_code (2) (some .int) ∈ zTB := zin (List.mem_of_getElem? (i := 818) (by decide +kernel)) rfl
theorem w_787 : Cond.methodLink "SlottedMeshLaw" (70) ⟨"SlottedMeshModel", "rank", "(I)I"⟩ ∈ zTB := zin (List.mem_of_getElem? (i := 819) (by decide +kernel)) rfl
theorem w_788 : Cond.instanceMethod ⟨"SlottedMeshModel", "rank", "(I)I"⟩ ∈ zTB := zin (List.mem_of_getElem? (i := 820) (by decide +kernel)) rfl
theorem w_789 : Cond.selects "SlottedMeshModel" ⟨"SlottedMeshModel", "rank", "(I)I"⟩ ⟨"SlottedMeshModel", "rank", "(I)I"⟩ ∈ zTB := zin (List.mem_of_getElem? (i := 821) (by decide +kernel)) rfl
theorem w_790 : Cond.code ⟨"SlottedMeshModel", "rank", "(I)I"⟩ prog_11_method_31_code (2) (some .int) ∈ zTB := zin (List.mem_of_getElem? (i := 822) (by decide +kernel)) rfl
theorem w_791 : Cond.methodLink "SlottedMeshLaw" (74) ⟨"SlottedMeshModel", "parent", "(II)I"⟩ ∈ zTB := zin (List.mem_of_getElem? (i := 823) (by decide +kernel)) rfl
theorem w_792 : Cond.instanceMethod ⟨"SlottedMeshModel", "parent", "(II)I"⟩ ∈ zTB := zin (List.mem_of_getElem? (i := 824) (by decide +kernel)) rfl
theorem w_793 : Cond.selects "SlottedMeshModel" ⟨"SlottedMeshModel", "parent", "(II)I"⟩ ⟨"SlottedMeshModel", "parent", "(II)I"⟩ ∈ zTB := zin (List.mem_of_getElem? (i := 825) (by decide +kernel)) rfl
theorem w_794 : Cond.code ⟨"SlottedMeshModel", "parent", "(II)I"⟩ prog_11_method_32_code (3) (some .int) ∈ zTB := zin (List.mem_of_getElem? (i := 826) (by decide +kernel)) rfl
theorem w_795 : Cond.methodLink "SlottedMeshLaw" (77) ⟨"SlottedMeshModel", "cell", "(II)I"⟩ ∈ zTB := zin (List.mem_of_getElem? (i := 827) (by decide +kernel)) rfl
theorem w_796 : Cond.instanceMethod ⟨"SlottedMeshModel", "cell", "(II)I"⟩ ∈ zTB := zin (List.mem_of_getElem? (i := 828) (by decide +kernel)) rfl
theorem w_797 : Cond.selects "SlottedMeshModel" ⟨"SlottedMeshModel", "cell", "(II)I"⟩ ⟨"SlottedMeshModel", "cell", "(II)I"⟩ ∈ zTB := zin (List.mem_of_getElem? (i := 829) (by decide +kernel)) rfl
theorem w_798 : Cond.code ⟨"SlottedMeshModel", "cell", "(II)I"⟩ prog_11_method_33_code (3) (some .int) ∈ zTB := zin (List.mem_of_getElem? (i := 830) (by decide +kernel)) rfl
theorem w_799 : Cond.methodLink "SlottedMeshLaw" (81) ⟨"SlottedMeshModel", "current", "(I)Z"⟩ ∈ zTB := zin (List.mem_of_getElem? (i := 831) (by decide +kernel)) rfl
theorem w_800 : Cond.instanceMethod ⟨"SlottedMeshModel", "current", "(I)Z"⟩ ∈ zTB := zin (List.mem_of_getElem? (i := 832) (by decide +kernel)) rfl
theorem w_801 : Cond.selects "SlottedMeshModel" ⟨"SlottedMeshModel", "current", "(I)Z"⟩ ⟨"SlottedMeshModel", "current", "(I)Z"⟩ ∈ zTB := zin (List.mem_of_getElem? (i := 833) (by decide +kernel)) rfl
theorem w_802 : Cond.code ⟨"SlottedMeshModel", "current", "(I)Z"⟩ prog_11_method_34_code (2) (some .boolean) ∈ zTB := zin (List.mem_of_getElem? (i := 834) (by decide +kernel)) rfl
theorem w_803 : Cond.methodLink "SlottedMeshLaw" (85) ⟨"SlottedMeshModel", "offset", "(I)I"⟩ ∈ zTB := zin (List.mem_of_getElem? (i := 835) (by decide +kernel)) rfl
theorem w_804 : Cond.instanceMethod ⟨"SlottedMeshModel", "offset", "(I)I"⟩ ∈ zTB := zin (List.mem_of_getElem? (i := 836) (by decide +kernel)) rfl
theorem w_805 : Cond.selects "SlottedMeshModel" ⟨"SlottedMeshModel", "offset", "(I)I"⟩ ⟨"SlottedMeshModel", "offset", "(I)I"⟩ ∈ zTB := zin (List.mem_of_getElem? (i := 837) (by decide +kernel)) rfl
theorem w_806 : Cond.code ⟨"SlottedMeshModel", "offset", "(I)I"⟩ prog_11_method_35_code (2) (some .int) ∈ zTB := zin (List.mem_of_getElem? (i := 838) (by decide +kernel)) rfl
theorem w_807 : Cond.methodLink "SlottedMeshLaw" (89) ⟨"SlottedMeshModel", "count", "(II)I"⟩ ∈ zTB := zin (List.mem_of_getElem? (i := 839) (by decide +kernel)) rfl
theorem w_808 : Cond.instanceMethod ⟨"SlottedMeshModel", "count", "(II)I"⟩ ∈ zTB := zin (List.mem_of_getElem? (i := 840) (by decide +kernel)) rfl
theorem w_809 : Cond.selects "SlottedMeshModel" ⟨"SlottedMeshModel", "count", "(II)I"⟩ ⟨"SlottedMeshModel", "count", "(II)I"⟩ ∈ zTB := zin (List.mem_of_getElem? (i := 841) (by decide +kernel)) rfl
theorem w_810 : Cond.code ⟨"SlottedMeshModel", "count", "(II)I"⟩ prog_11_method_36_code (3) (some .int) ∈ zTB := zin (List.mem_of_getElem? (i := 842) (by decide +kernel)) rfl
theorem w_811 : Cond.methodLink "SlottedMeshLaw" (93) ⟨"SlottedMeshModel", "cached", "(II)I"⟩ ∈ zTB := zin (List.mem_of_getElem? (i := 843) (by decide +kernel)) rfl
theorem w_812 : Cond.instanceMethod ⟨"SlottedMeshModel", "cached", "(II)I"⟩ ∈ zTB := zin (List.mem_of_getElem? (i := 844) (by decide +kernel)) rfl
theorem w_813 : Cond.selects "SlottedMeshModel" ⟨"SlottedMeshModel", "cached", "(II)I"⟩ ⟨"SlottedMeshModel", "cached", "(II)I"⟩ ∈ zTB := zin (List.mem_of_getElem? (i := 845) (by decide +kernel)) rfl
theorem w_814 : Cond.code ⟨"SlottedMeshModel", "cached", "(II)I"⟩ prog_11_method_37_code (3) (some .int) ∈ zTB := zin (List.mem_of_getElem? (i := 846) (by decide +kernel)) rfl
theorem w_815 : Cond.methodLink "SlottedMeshLaw" (97) ⟨"SlottedMeshModel", "latest", "(I)I"⟩ ∈ zTB := zin (List.mem_of_getElem? (i := 847) (by decide +kernel)) rfl
theorem w_816 : Cond.instanceMethod ⟨"SlottedMeshModel", "latest", "(I)I"⟩ ∈ zTB := zin (List.mem_of_getElem? (i := 848) (by decide +kernel)) rfl
theorem w_817 : Cond.selects "SlottedMeshModel" ⟨"SlottedMeshModel", "latest", "(I)I"⟩ ⟨"SlottedMeshModel", "latest", "(I)I"⟩ ∈ zTB := zin (List.mem_of_getElem? (i := 849) (by decide +kernel)) rfl
theorem w_818 : Cond.code ⟨"SlottedMeshModel", "latest", "(I)I"⟩ prog_11_method_38_code (2) (some .int) ∈ zTB := zin (List.mem_of_getElem? (i := 850) (by decide +kernel)) rfl
theorem w_819 : Cond.methodLink "SlottedMeshLaw" (101) ⟨"SlottedMeshModel", "actuator", "(I)I"⟩ ∈ zTB := zin (List.mem_of_getElem? (i := 851) (by decide +kernel)) rfl
theorem w_820 : Cond.instanceMethod ⟨"SlottedMeshModel", "actuator", "(I)I"⟩ ∈ zTB := zin (List.mem_of_getElem? (i := 852) (by decide +kernel)) rfl
theorem w_821 : Cond.selects "SlottedMeshModel" ⟨"SlottedMeshModel", "actuator", "(I)I"⟩ ⟨"SlottedMeshModel", "actuator", "(I)I"⟩ ∈ zTB := zin (List.mem_of_getElem? (i := 853) (by decide +kernel)) rfl
theorem w_822 : Cond.code ⟨"SlottedMeshModel", "actuator", "(I)I"⟩ prog_11_method_39_code (2) (some .int) ∈ zTB := zin (List.mem_of_getElem? (i := 854) (by decide +kernel)) rfl
theorem w_823 : Cond.methodLink "SlottedMeshLaw" (105) ⟨"SlottedMeshModel", "sent", "()I"⟩ ∈ zTB := zin (List.mem_of_getElem? (i := 855) (by decide +kernel)) rfl
theorem w_824 : Cond.instanceMethod ⟨"SlottedMeshModel", "sent", "()I"⟩ ∈ zTB := zin (List.mem_of_getElem? (i := 856) (by decide +kernel)) rfl
theorem w_825 : Cond.selects "SlottedMeshModel" ⟨"SlottedMeshModel", "sent", "()I"⟩ ⟨"SlottedMeshModel", "sent", "()I"⟩ ∈ zTB := zin (List.mem_of_getElem? (i := 857) (by decide +kernel)) rfl
theorem w_826 : Cond.code ⟨"SlottedMeshModel", "sent", "()I"⟩ prog_11_method_40_code (1) (some .int) ∈ zTB := zin (List.mem_of_getElem? (i := 858) (by decide +kernel)) rfl
theorem w_827 : Cond.constantLong "SlottedMeshLaw" (45) (4294967295 : Int64) ∈ zTB := zin (List.mem_of_getElem? (i := 859) (by decide +kernel)) rfl
theorem w_828 : Cond.selects "SlottedMesh$Down" ⟨"SlottedMesh$Down", "done", "(LSlottedMesh;)V"⟩ ⟨"SlottedMesh$Down", "done", "(LSlottedMesh;)V"⟩ ∈ zTB := zin (List.mem_of_getElem? (i := 860) (by decide +kernel)) rfl
theorem v_829 : Cond.castable "SlottedMesh$Advert" "SlottedMesh$Advert" ∈ lw_tbl := List.mem_of_getElem? (i := 861) (by decide +kernel)
theorem v_830 : Cond.castable "SlottedMesh$Advert" "SlottedMesh$Cell" ∈ lw_tbl := List.mem_of_getElem? (i := 862) (by decide +kernel)
theorem v_831 : Cond.castable "SlottedMesh$Down" "SlottedMesh$Cell" ∈ lw_tbl := List.mem_of_getElem? (i := 863) (by decide +kernel)
theorem v_832 : Cond.castable "SlottedMesh$Up" "SlottedMesh$Cell" ∈ lw_tbl := List.mem_of_getElem? (i := 864) (by decide +kernel)
theorem s_0 : Cond.selects "SlottedMesh" ⟨"SlottedMesh", "node", "(I)LSlottedMesh$Node;"⟩ ⟨"SlottedMesh", "node", "(I)LSlottedMesh$Node;"⟩ ∈ zTB := zin (List.mem_of_getElem? (i := 0) (by decide +kernel)) rfl
theorem s_1 : Cond.selects "SlottedMesh" ⟨"SlottedMesh", "route", "()Z"⟩ ⟨"SlottedMesh", "route", "()Z"⟩ ∈ zTB := zin (List.mem_of_getElem? (i := 1) (by decide +kernel)) rfl
theorem s_2 : Cond.selects "SlottedMesh" ⟨"SlottedMesh", "sort", "()V"⟩ ⟨"SlottedMesh", "sort", "()V"⟩ ∈ zTB := zin (List.mem_of_getElem? (i := 2) (by decide +kernel)) rfl
theorem s_3 : Cond.selects "SlottedMesh" ⟨"SlottedMesh", "place", "()Z"⟩ ⟨"SlottedMesh", "place", "()Z"⟩ ∈ zTB := zin (List.mem_of_getElem? (i := 3) (by decide +kernel)) rfl
theorem s_4 : Cond.selects "SlottedMesh" ⟨"SlottedMesh", "placeAdvert", "()Z"⟩ ⟨"SlottedMesh", "placeAdvert", "()Z"⟩ ∈ zTB := zin (List.mem_of_getElem? (i := 4) (by decide +kernel)) rfl
theorem s_5 : Cond.selects "SlottedMesh" ⟨"SlottedMesh", "note", "(II)V"⟩ ⟨"SlottedMesh", "note", "(II)V"⟩ ∈ zTB := zin (List.mem_of_getElem? (i := 5) (by decide +kernel)) rfl
theorem s_6 : Cond.selects "SlottedMesh" ⟨"SlottedMesh", "placeLink", "(II)Z"⟩ ⟨"SlottedMesh", "placeLink", "(II)Z"⟩ ∈ zTB := zin (List.mem_of_getElem? (i := 6) (by decide +kernel)) rfl
theorem s_7 : Cond.selects "SlottedMesh" ⟨"SlottedMesh", "adopt", "()V"⟩ ⟨"SlottedMesh", "adopt", "()V"⟩ ∈ zTB := zin (List.mem_of_getElem? (i := 7) (by decide +kernel)) rfl
theorem s_8 : Cond.selects "SlottedMesh" ⟨"SlottedMesh", "empty", "(LSlottedMesh$Row;)V"⟩ ⟨"SlottedMesh", "empty", "(LSlottedMesh$Row;)V"⟩ ∈ zTB := zin (List.mem_of_getElem? (i := 8) (by decide +kernel)) rfl
theorem s_9 : Cond.selects "SlottedMesh" ⟨"SlottedMesh", "release", "(LSlottedMesh$Frame;)V"⟩ ⟨"SlottedMesh", "release", "(LSlottedMesh$Frame;)V"⟩ ∈ zTB := zin (List.mem_of_getElem? (i := 9) (by decide +kernel)) rfl
theorem s_10 : Cond.selects "SlottedMesh" ⟨"SlottedMesh", "hang", "(LSlottedMesh$Cell;LSlottedMesh$Node;I)V"⟩ ⟨"SlottedMesh", "hang", "(LSlottedMesh$Cell;LSlottedMesh$Node;I)V"⟩ ∈ zTB := zin (List.mem_of_getElem? (i := 10) (by decide +kernel)) rfl
theorem s_11 : Cond.selects "SlottedMesh" ⟨"SlottedMesh", "hangLink", "(LSlottedMesh$Link;LSlottedMesh$Node;LSlottedMesh$Node;I)V"⟩ ⟨"SlottedMesh", "hangLink", "(LSlottedMesh$Link;LSlottedMesh$Node;LSlottedMesh$Node;I)V"⟩ ∈ zTB := zin (List.mem_of_getElem? (i := 11) (by decide +kernel)) rfl
theorem s_12 : Cond.selects "SlottedMesh" ⟨"SlottedMesh", "field", "(I)LSlottedMesh$Node;"⟩ ⟨"SlottedMesh", "field", "(I)LSlottedMesh$Node;"⟩ ∈ zTB := zin (List.mem_of_getElem? (i := 12) (by decide +kernel)) rfl
theorem s_13 : Cond.selects "SlottedMesh" ⟨"SlottedMesh", "frame", "(III)LSlottedMesh$Frame;"⟩ ⟨"SlottedMesh", "frame", "(III)LSlottedMesh$Frame;"⟩ ∈ zTB := zin (List.mem_of_getElem? (i := 13) (by decide +kernel)) rfl
theorem s_14 : Cond.selects "SlottedMesh" ⟨"SlottedMesh", "good", "([JI)Z"⟩ ⟨"SlottedMesh", "good", "([JI)Z"⟩ ∈ zTB := zin (List.mem_of_getElem? (i := 14) (by decide +kernel)) rfl
theorem s_15 : Cond.selects "SlottedMesh" ⟨"SlottedMesh", "cache", "(LSlottedMesh$Frame;)V"⟩ ⟨"SlottedMesh", "cache", "(LSlottedMesh$Frame;)V"⟩ ∈ zTB := zin (List.mem_of_getElem? (i := 15) (by decide +kernel)) rfl
theorem s_16 : Cond.selects "SlottedMeshModel" ⟨"SlottedMeshModel", "noNode", "(I)Z"⟩ ⟨"SlottedMeshModel", "noNode", "(I)Z"⟩ ∈ zTB := zin (List.mem_of_getElem? (i := 16) (by decide +kernel)) rfl
theorem s_17 : Cond.selects "SlottedMeshModel" ⟨"SlottedMeshModel", "ranks", "()Z"⟩ ⟨"SlottedMeshModel", "ranks", "()Z"⟩ ∈ zTB := zin (List.mem_of_getElem? (i := 17) (by decide +kernel)) rfl
theorem s_18 : Cond.selects "SlottedMeshModel" ⟨"SlottedMeshModel", "findParents", "()V"⟩ ⟨"SlottedMeshModel", "findParents", "()V"⟩ ∈ zTB := zin (List.mem_of_getElem? (i := 18) (by decide +kernel)) rfl
theorem s_19 : Cond.selects "SlottedMeshModel" ⟨"SlottedMeshModel", "placeAll", "()Z"⟩ ⟨"SlottedMeshModel", "placeAll", "()Z"⟩ ∈ zTB := zin (List.mem_of_getElem? (i := 19) (by decide +kernel)) rfl
theorem s_20 : Cond.selects "SlottedMeshModel" ⟨"SlottedMeshModel", "placeAdvert", "(I)Z"⟩ ⟨"SlottedMeshModel", "placeAdvert", "(I)Z"⟩ ∈ zTB := zin (List.mem_of_getElem? (i := 20) (by decide +kernel)) rfl
theorem s_21 : Cond.selects "SlottedMeshModel" ⟨"SlottedMeshModel", "place", "(I)Z"⟩ ⟨"SlottedMeshModel", "place", "(I)Z"⟩ ∈ zTB := zin (List.mem_of_getElem? (i := 21) (by decide +kernel)) rfl
theorem s_22 : Cond.selects "SlottedMeshModel" ⟨"SlottedMeshModel", "add", "(IIII)V"⟩ ⟨"SlottedMeshModel", "add", "(IIII)V"⟩ ∈ zTB := zin (List.mem_of_getElem? (i := 22) (by decide +kernel)) rfl
theorem s_23 : Cond.selects "SlottedMeshModel" ⟨"SlottedMeshModel", "slot", "()V"⟩ ⟨"SlottedMeshModel", "slot", "()V"⟩ ∈ zTB := zin (List.mem_of_getElem? (i := 23) (by decide +kernel)) rfl
theorem s_24 : Cond.selects "SlottedMeshModel" ⟨"SlottedMeshModel", "advert", "(I)V"⟩ ⟨"SlottedMeshModel", "advert", "(I)V"⟩ ∈ zTB := zin (List.mem_of_getElem? (i := 24) (by decide +kernel)) rfl
theorem s_25 : Cond.selects "SlottedMeshModel" ⟨"SlottedMeshModel", "close", "(II)Z"⟩ ⟨"SlottedMeshModel", "close", "(II)Z"⟩ ∈ zTB := zin (List.mem_of_getElem? (i := 25) (by decide +kernel)) rfl
theorem s_26 : Cond.selects "SlottedMeshModel" ⟨"SlottedMeshModel", "down", "(III)V"⟩ ⟨"SlottedMeshModel", "down", "(III)V"⟩ ∈ zTB := zin (List.mem_of_getElem? (i := 26) (by decide +kernel)) rfl
theorem s_27 : Cond.selects "SlottedMeshModel" ⟨"SlottedMeshModel", "below", "(II)Z"⟩ ⟨"SlottedMeshModel", "below", "(II)Z"⟩ ∈ zTB := zin (List.mem_of_getElem? (i := 27) (by decide +kernel)) rfl
theorem s_28 : Cond.selects "SlottedMeshModel" ⟨"SlottedMeshModel", "hears", "(III)Z"⟩ ⟨"SlottedMeshModel", "hears", "(III)Z"⟩ ∈ zTB := zin (List.mem_of_getElem? (i := 28) (by decide +kernel)) rfl
theorem s_29 : Cond.selects "SlottedMeshModel" ⟨"SlottedMeshModel", "leave", "(I)V"⟩ ⟨"SlottedMeshModel", "leave", "(I)V"⟩ ∈ zTB := zin (List.mem_of_getElem? (i := 29) (by decide +kernel)) rfl
theorem s_30 : Cond.selects "SlottedMeshModel" ⟨"SlottedMeshModel", "up", "(III)V"⟩ ⟨"SlottedMeshModel", "up", "(III)V"⟩ ∈ zTB := zin (List.mem_of_getElem? (i := 30) (by decide +kernel)) rfl
theorem s_31 : Cond.selects "SlottedMeshModel" ⟨"SlottedMeshModel", "cache", "(III)V"⟩ ⟨"SlottedMeshModel", "cache", "(III)V"⟩ ∈ zTB := zin (List.mem_of_getElem? (i := 31) (by decide +kernel)) rfl
theorem i_SM : ∀ w ∈ u_ws R_SM F_SM 28, w ∈ zTB := by
  have h : ∀ w ∈ u_ws R_SM F_SM 28, w ∈ lw_tbl ∧ goodWord w = true := by decide +kernel
  exact fun w hw => zin (h w hw).1 (h w hw).2
theorem i_Node : ∀ w ∈ u_ws R_Node F_Node 16, w ∈ zTB := by
  have h : ∀ w ∈ u_ws R_Node F_Node 16, w ∈ lw_tbl ∧ goodWord w = true := by decide +kernel
  exact fun w hw => zin (h w hw).1 (h w hw).2
theorem i_Row : ∀ w ∈ u_ws R_Row F_Row 3, w ∈ zTB := by
  have h : ∀ w ∈ u_ws R_Row F_Row 3, w ∈ lw_tbl ∧ goodWord w = true := by decide +kernel
  exact fun w hw => zin (h w hw).1 (h w hw).2
theorem i_Frame : ∀ w ∈ u_ws R_Frame F_Frame 4, w ∈ zTB := by
  have h : ∀ w ∈ u_ws R_Frame F_Frame 4, w ∈ lw_tbl ∧ goodWord w = true := by decide +kernel
  exact fun w hw => zin (h w hw).1 (h w hw).2
theorem i_Advert : ∀ w ∈ u_ws R_Advert F_Advert 3, w ∈ zTB := by
  have h : ∀ w ∈ u_ws R_Advert F_Advert 3, w ∈ lw_tbl ∧ goodWord w = true := by decide +kernel
  exact fun w hw => zin (h w hw).1 (h w hw).2
theorem i_Up : ∀ w ∈ u_ws R_Up F_Up 4, w ∈ zTB := by
  have h : ∀ w ∈ u_ws R_Up F_Up 4, w ∈ lw_tbl ∧ goodWord w = true := by decide +kernel
  exact fun w hw => zin (h w hw).1 (h w hw).2
theorem i_Down : ∀ w ∈ u_ws R_Down F_Down 4, w ∈ zTB := by
  have h : ∀ w ∈ u_ws R_Down F_Down 4, w ∈ lw_tbl ∧ goodWord w = true := by decide +kernel
  exact fun w hw => zin (h w hw).1 (h w hw).2
theorem i_Model : ∀ w ∈ u_ws R_Model F_Model 34, w ∈ zTB := by
  have h : ∀ w ∈ u_ws R_Model F_Model 34, w ∈ lw_tbl ∧ goodWord w = true := by decide +kernel
  exact fun w hw => zin (h w hw).1 (h w hw).2
