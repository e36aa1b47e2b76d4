set_option maxRecDepth 100000
theorem eX0_bill_0 : Dc cX0_bill 0 (.aload_n 0) 1 1 := ⟨by decide +kernel, rfl⟩
theorem eX0_bill_1 : Dc cX0_bill 1 (.iload_n 1) 1 2 := ⟨by decide +kernel, rfl⟩
theorem eX0_bill_2 : Dc cX0_bill 2 (.invokevirtual 269) 3 5 := ⟨by decide +kernel, rfl⟩
theorem eX0_bill_5 : Dc cX0_bill 5 (.astore_n 2) 1 6 := ⟨by decide +kernel, rfl⟩
theorem eX0_bill_6 : Dc cX0_bill 6 (.aload_n 2) 1 7 := ⟨by decide +kernel, rfl⟩
theorem eX0_bill_7 : Db cX0_bill 7 (fun o => .ifnonnull o) 12 10 := ⟨5, by decide +kernel, by decide, rfl⟩
theorem eX0_bill_10 : Dc cX0_bill 10 (.iconst (-1)) 1 11 := ⟨by decide +kernel, rfl⟩
theorem eX0_bill_11 : Dc cX0_bill 11 (.ireturn) 1 12 := ⟨by decide +kernel, rfl⟩
theorem eX0_bill_12 : Dc cX0_bill 12 (.aload_n 2) 1 13 := ⟨by decide +kernel, rfl⟩
theorem eX0_bill_13 : Dc cX0_bill 13 (.getfield 261) 3 16 := ⟨by decide +kernel, rfl⟩
theorem eX0_bill_16 : Dc cX0_bill 16 (.bipush (-5)) 2 18 := ⟨by decide +kernel, rfl⟩
theorem eX0_bill_18 : Db cX0_bill 18 (fun o => .if_icmp .ne o) 69 21 := ⟨51, by decide +kernel, by decide, rfl⟩
theorem eX0_bill_21 : Dc cX0_bill 21 (.aload_n 0) 1 22 := ⟨by decide +kernel, rfl⟩
theorem eX0_bill_22 : Dc cX0_bill 22 (.aload_n 2) 1 23 := ⟨by decide +kernel, rfl⟩
theorem eX0_bill_23 : Dc cX0_bill 23 (.aload_n 0) 1 24 := ⟨by decide +kernel, rfl⟩
theorem eX0_bill_24 : Dc cX0_bill 24 (.getfield 194) 3 27 := ⟨by decide +kernel, rfl⟩
theorem eX0_bill_27 : Dc cX0_bill 27 (.invokevirtual 277) 3 30 := ⟨by decide +kernel, rfl⟩
theorem eX0_bill_30 : Dc cX0_bill 30 (.bipush (-5)) 2 32 := ⟨by decide +kernel, rfl⟩
theorem eX0_bill_32 : Db cX0_bill 32 (fun o => .if_icmp .ne o) 69 35 := ⟨37, by decide +kernel, by decide, rfl⟩
theorem eX0_bill_35 : Dc cX0_bill 35 (.aload_n 0) 1 36 := ⟨by decide +kernel, rfl⟩
theorem eX0_bill_36 : Dc cX0_bill 36 (.aload_n 2) 1 37 := ⟨by decide +kernel, rfl⟩
theorem eX0_bill_37 : Dc cX0_bill 37 (.aload_n 0) 1 38 := ⟨by decide +kernel, rfl⟩
theorem eX0_bill_38 : Dc cX0_bill 38 (.getfield 194) 3 41 := ⟨by decide +kernel, rfl⟩
theorem eX0_bill_41 : Dc cX0_bill 41 (.invokevirtual 281) 3 44 := ⟨by decide +kernel, rfl⟩
theorem eX0_bill_44 : Dc cX0_bill 44 (.bipush (-5)) 2 46 := ⟨by decide +kernel, rfl⟩
theorem eX0_bill_46 : Db cX0_bill 46 (fun o => .if_icmp .ne o) 69 49 := ⟨23, by decide +kernel, by decide, rfl⟩
theorem eX0_bill_49 : Dc cX0_bill 49 (.aload_n 0) 1 50 := ⟨by decide +kernel, rfl⟩
theorem eX0_bill_50 : Dc cX0_bill 50 (.getfield 194) 3 53 := ⟨by decide +kernel, rfl⟩
theorem eX0_bill_53 : Dc cX0_bill 53 (.aload_n 0) 1 54 := ⟨by decide +kernel, rfl⟩
theorem eX0_bill_54 : Dc cX0_bill 54 (.iconst 2) 1 55 := ⟨by decide +kernel, rfl⟩
theorem eX0_bill_55 : Dc cX0_bill 55 (.aload_n 0) 1 56 := ⟨by decide +kernel, rfl⟩
theorem eX0_bill_56 : Dc cX0_bill 56 (.getfield 194) 3 59 := ⟨by decide +kernel, rfl⟩
theorem eX0_bill_59 : Dc cX0_bill 59 (.invokevirtual 118) 3 62 := ⟨by decide +kernel, rfl⟩
theorem eX0_bill_62 : Db cX0_bill 62 (fun o => .if_icmp .gt o) 69 65 := ⟨7, by decide +kernel, by decide, rfl⟩
theorem eX0_bill_65 : Dc cX0_bill 65 (.iconst 1) 1 66 := ⟨by decide +kernel, rfl⟩
theorem eX0_bill_66 : Db cX0_bill 66 (fun o => .goto o) 70 69 := ⟨4, by decide +kernel, by decide, rfl⟩
theorem eX0_bill_69 : Dc cX0_bill 69 (.iconst 0) 1 70 := ⟨by decide +kernel, rfl⟩
theorem eX0_bill_70 : Dc cX0_bill 70 (.istore_n 3) 1 71 := ⟨by decide +kernel, rfl⟩
theorem eX0_bill_71 : Dc cX0_bill 71 (.iconst 0) 1 72 := ⟨by decide +kernel, rfl⟩
theorem eX0_bill_72 : Dc cX0_bill 72 (.istore 5) 2 74 := ⟨by decide +kernel, rfl⟩
theorem eX0_bill_74 : Dc cX0_bill 74 (.iload 5) 2 76 := ⟨by decide +kernel, rfl⟩
theorem eX0_bill_76 : Dc cX0_bill 76 (.aload_n 0) 1 77 := ⟨by decide +kernel, rfl⟩
theorem eX0_bill_77 : Dc cX0_bill 77 (.getfield 121) 3 80 := ⟨by decide +kernel, rfl⟩
theorem eX0_bill_80 : Dc cX0_bill 80 (.invokevirtual 32) 3 83 := ⟨by decide +kernel, rfl⟩
theorem eX0_bill_83 : Db cX0_bill 83 (fun o => .if_icmp .ge o) 135 86 := ⟨52, by decide +kernel, by decide, rfl⟩
theorem eX0_bill_86 : Dc cX0_bill 86 (.iload_n 3) 1 87 := ⟨by decide +kernel, rfl⟩
theorem eX0_bill_87 : Dc cX0_bill 87 (.aload_n 0) 1 88 := ⟨by decide +kernel, rfl⟩
theorem eX0_bill_88 : Dc cX0_bill 88 (.getfield 121) 3 91 := ⟨by decide +kernel, rfl⟩
theorem eX0_bill_91 : Dc cX0_bill 91 (.iload 5) 2 93 := ⟨by decide +kernel, rfl⟩
theorem eX0_bill_93 : Dc cX0_bill 93 (.invokevirtual 38) 3 96 := ⟨by decide +kernel, rfl⟩
theorem eX0_bill_96 : Dc cX0_bill 96 (.astore 6) 2 98 := ⟨by decide +kernel, rfl⟩
theorem eX0_bill_98 : Dc cX0_bill 98 (.aload 6) 2 100 := ⟨by decide +kernel, rfl⟩
theorem eX0_bill_100 : Dc cX0_bill 100 (.instanceof 136) 3 103 := ⟨by decide +kernel, rfl⟩
theorem eX0_bill_103 : Db cX0_bill 103 (fun o => .ifCond .eq o) 122 106 := ⟨19, by decide +kernel, by decide, rfl⟩
theorem eX0_bill_106 : Dc cX0_bill 106 (.aload 6) 2 108 := ⟨by decide +kernel, rfl⟩
theorem eX0_bill_108 : Dc cX0_bill 108 (.checkcast 136) 3 111 := ⟨by decide +kernel, rfl⟩
theorem eX0_bill_111 : Dc cX0_bill 111 (.astore 4) 2 113 := ⟨by decide +kernel, rfl⟩
theorem eX0_bill_113 : Dc cX0_bill 113 (.aload 4) 2 115 := ⟨by decide +kernel, rfl⟩
theorem eX0_bill_115 : Dc cX0_bill 115 (.getfield 303) 3 118 := ⟨by decide +kernel, rfl⟩
theorem eX0_bill_118 : Dc cX0_bill 118 (.aload_n 2) 1 119 := ⟨by decide +kernel, rfl⟩
theorem eX0_bill_119 : Db cX0_bill 119 (fun o => .if_acmp .eq o) 126 122 := ⟨7, by decide +kernel, by decide, rfl⟩
theorem eX0_bill_122 : Dc cX0_bill 122 (.iconst 1) 1 123 := ⟨by decide +kernel, rfl⟩
theorem eX0_bill_123 : Db cX0_bill 123 (fun o => .goto o) 127 126 := ⟨4, by decide +kernel, by decide, rfl⟩
theorem eX0_bill_126 : Dc cX0_bill 126 (.iconst 0) 1 127 := ⟨by decide +kernel, rfl⟩
theorem eX0_bill_127 : Dc cX0_bill 127 (.iand) 1 128 := ⟨by decide +kernel, rfl⟩
theorem eX0_bill_128 : Dc cX0_bill 128 (.istore_n 3) 1 129 := ⟨by decide +kernel, rfl⟩
theorem eX0_bill_129 : Dc cX0_bill 129 (.iinc 5 1) 3 132 := ⟨by decide +kernel, rfl⟩
theorem eX0_bill_132 : Db cX0_bill 132 (fun o => .goto o) 74 135 := ⟨-58, by decide +kernel, by decide, rfl⟩
theorem eX0_bill_135 : Dc cX0_bill 135 (.iload_n 3) 1 136 := ⟨by decide +kernel, rfl⟩
theorem eX0_bill_136 : Db cX0_bill 136 (fun o => .ifCond .ne o) 142 139 := ⟨6, by decide +kernel, by decide, rfl⟩
theorem eX0_bill_139 : Dc cX0_bill 139 (.bipush (-3)) 2 141 := ⟨by decide +kernel, rfl⟩
theorem eX0_bill_141 : Dc cX0_bill 141 (.ireturn) 1 142 := ⟨by decide +kernel, rfl⟩
theorem eX0_bill_142 : Dc cX0_bill 142 (.aload_n 0) 1 143 := ⟨by decide +kernel, rfl⟩
theorem eX0_bill_143 : Dc cX0_bill 143 (.invokevirtual 187) 3 146 := ⟨by decide +kernel, rfl⟩
theorem eX0_bill_146 : Db cX0_bill 146 (fun o => .ifCond .eq o) 154 149 := ⟨8, by decide +kernel, by decide, rfl⟩
theorem eX0_bill_149 : Dc cX0_bill 149 (.bipush (-4)) 2 151 := ⟨by decide +kernel, rfl⟩
theorem eX0_bill_151 : Db cX0_bill 151 (fun o => .goto o) 177 154 := ⟨26, by decide +kernel, by decide, rfl⟩
theorem eX0_bill_154 : Dc cX0_bill 154 (.aload_n 0) 1 155 := ⟨by decide +kernel, rfl⟩
theorem eX0_bill_155 : Dc cX0_bill 155 (.new 136) 3 158 := ⟨by decide +kernel, rfl⟩
theorem eX0_bill_158 : Dc cX0_bill 158 (.dup) 1 159 := ⟨by decide +kernel, rfl⟩
theorem eX0_bill_159 : Dc cX0_bill 159 (.aload_n 0) 1 160 := ⟨by decide +kernel, rfl⟩
theorem eX0_bill_160 : Dc cX0_bill 160 (.getfield 121) 3 163 := ⟨by decide +kernel, rfl⟩
theorem eX0_bill_163 : Dc cX0_bill 163 (.invokevirtual 32) 3 166 := ⟨by decide +kernel, rfl⟩
theorem eX0_bill_166 : Dc cX0_bill 166 (.aload_n 0) 1 167 := ⟨by decide +kernel, rfl⟩
theorem eX0_bill_167 : Dc cX0_bill 167 (.getfield 194) 3 170 := ⟨by decide +kernel, rfl⟩
theorem eX0_bill_170 : Dc cX0_bill 170 (.aload_n 2) 1 171 := ⟨by decide +kernel, rfl⟩
theorem eX0_bill_171 : Dc cX0_bill 171 (.invokespecial 329) 3 174 := ⟨by decide +kernel, rfl⟩
theorem eX0_bill_174 : Dc cX0_bill 174 (.invokevirtual 200) 3 177 := ⟨by decide +kernel, rfl⟩
theorem eX0_bill_177 : Dc cX0_bill 177 (.ireturn) 1 178 := ⟨by decide +kernel, rfl⟩
theorem eX0_hear_0 : Dc cX0_hear 0 (.aload_n 0) 1 1 := ⟨by decide +kernel, rfl⟩
theorem eX0_hear_1 : Dc cX0_hear 1 (.iload_n 1) 1 2 := ⟨by decide +kernel, rfl⟩
theorem eX0_hear_2 : Dc cX0_hear 2 (.invokevirtual 332) 3 5 := ⟨by decide +kernel, rfl⟩
theorem eX0_hear_5 : Dc cX0_hear 5 (.astore_n 3) 1 6 := ⟨by decide +kernel, rfl⟩
theorem eX0_hear_6 : Dc cX0_hear 6 (.aload_n 3) 1 7 := ⟨by decide +kernel, rfl⟩
theorem eX0_hear_7 : Db cX0_hear 7 (fun o => .ifnonnull o) 12 10 := ⟨5, by decide +kernel, by decide, rfl⟩
theorem eX0_hear_10 : Dc cX0_hear 10 (.iconst (-1)) 1 11 := ⟨by decide +kernel, rfl⟩
theorem eX0_hear_11 : Dc cX0_hear 11 (.ireturn) 1 12 := ⟨by decide +kernel, rfl⟩
theorem eX0_hear_12 : Dc cX0_hear 12 (.iload_n 2) 1 13 := ⟨by decide +kernel, rfl⟩
theorem eX0_hear_13 : Dc cX0_hear 13 (.invokestatic 74) 3 16 := ⟨by decide +kernel, rfl⟩
theorem eX0_hear_16 : Db cX0_hear 16 (fun o => .ifCond .eq o) 36 19 := ⟨20, by decide +kernel, by decide, rfl⟩
theorem eX0_hear_19 : Dc cX0_hear 19 (.aload_n 0) 1 20 := ⟨by decide +kernel, rfl⟩
theorem eX0_hear_20 : Dc cX0_hear 20 (.aload_n 3) 1 21 := ⟨by decide +kernel, rfl⟩
theorem eX0_hear_21 : Dc cX0_hear 21 (.iload_n 2) 1 22 := ⟨by decide +kernel, rfl⟩
theorem eX0_hear_22 : Dc cX0_hear 22 (.invokevirtual 336) 3 25 := ⟨by decide +kernel, rfl⟩
theorem eX0_hear_25 : Db cX0_hear 25 (fun o => .ifCond .eq o) 32 28 := ⟨7, by decide +kernel, by decide, rfl⟩
theorem eX0_hear_28 : Dc cX0_hear 28 (.iconst 1) 1 29 := ⟨by decide +kernel, rfl⟩
theorem eX0_hear_29 : Db cX0_hear 29 (fun o => .goto o) 38 32 := ⟨9, by decide +kernel, by decide, rfl⟩
theorem eX0_hear_32 : Dc cX0_hear 32 (.iconst 0) 1 33 := ⟨by decide +kernel, rfl⟩
theorem eX0_hear_33 : Db cX0_hear 33 (fun o => .goto o) 38 36 := ⟨5, by decide +kernel, by decide, rfl⟩
theorem eX0_hear_36 : Dc cX0_hear 36 (.bipush (-2)) 2 38 := ⟨by decide +kernel, rfl⟩
theorem eX0_hear_38 : Dc cX0_hear 38 (.ireturn) 1 39 := ⟨by decide +kernel, rfl⟩
theorem eX0_billAt_0 : Dc cX0_billAt 0 (.aload_n 0) 1 1 := ⟨by decide +kernel, rfl⟩
theorem eX0_billAt_1 : Dc cX0_billAt 1 (.iload_n 1) 1 2 := ⟨by decide +kernel, rfl⟩
theorem eX0_billAt_2 : Dc cX0_billAt 2 (.invokevirtual 126) 3 5 := ⟨by decide +kernel, rfl⟩
theorem eX0_billAt_5 : Dc cX0_billAt 5 (.astore_n 3) 1 6 := ⟨by decide +kernel, rfl⟩
theorem eX0_billAt_6 : Dc cX0_billAt 6 (.aload_n 3) 1 7 := ⟨by decide +kernel, rfl⟩
theorem eX0_billAt_7 : Dc cX0_billAt 7 (.instanceof 136) 3 10 := ⟨by decide +kernel, rfl⟩
theorem eX0_billAt_10 : Db cX0_billAt 10 (fun o => .ifCond .eq o) 22 13 := ⟨12, by decide +kernel, by decide, rfl⟩
theorem eX0_billAt_13 : Dc cX0_billAt 13 (.aload_n 3) 1 14 := ⟨by decide +kernel, rfl⟩
theorem eX0_billAt_14 : Dc cX0_billAt 14 (.checkcast 136) 3 17 := ⟨by decide +kernel, rfl⟩
theorem eX0_billAt_17 : Dc cX0_billAt 17 (.astore_n 2) 1 18 := ⟨by decide +kernel, rfl⟩
theorem eX0_billAt_18 : Dc cX0_billAt 18 (.aload_n 2) 1 19 := ⟨by decide +kernel, rfl⟩
theorem eX0_billAt_19 : Db cX0_billAt 19 (fun o => .goto o) 23 22 := ⟨4, by decide +kernel, by decide, rfl⟩
theorem eX0_billAt_22 : Dc cX0_billAt 22 (.aconst_null) 1 23 := ⟨by decide +kernel, rfl⟩
theorem eX0_billAt_23 : Dc cX0_billAt 23 (.areturn) 1 24 := ⟨by decide +kernel, rfl⟩
theorem eX0_canLet_0 : Dc cX0_canLet 0 (.aload_n 0) 1 1 := ⟨by decide +kernel, rfl⟩
theorem eX0_canLet_1 : Dc cX0_canLet 1 (.bipush 6) 2 3 := ⟨by decide +kernel, rfl⟩
theorem eX0_canLet_3 : Dc cX0_canLet 3 (.iload_n 2) 1 4 := ⟨by decide +kernel, rfl⟩
theorem eX0_canLet_4 : Dc cX0_canLet 4 (.invokevirtual 111) 3 7 := ⟨by decide +kernel, rfl⟩
theorem eX0_canLet_7 : Dc cX0_canLet 7 (.astore_n 3) 1 8 := ⟨by decide +kernel, rfl⟩
theorem eX0_canLet_8 : Dc cX0_canLet 8 (.aload_n 3) 1 9 := ⟨by decide +kernel, rfl⟩
theorem eX0_canLet_9 : Db cX0_canLet 9 (fun o => .ifnonnull o) 14 12 := ⟨5, by decide +kernel, by decide, rfl⟩
theorem eX0_canLet_12 : Dc cX0_canLet 12 (.iconst 1) 1 13 := ⟨by decide +kernel, rfl⟩
theorem eX0_canLet_13 : Dc cX0_canLet 13 (.ireturn) 1 14 := ⟨by decide +kernel, rfl⟩
theorem eX0_canLet_14 : Dc cX0_canLet 14 (.aload_n 1) 1 15 := ⟨by decide +kernel, rfl⟩
theorem eX0_canLet_15 : Dc cX0_canLet 15 (.getfield 303) 3 18 := ⟨by decide +kernel, rfl⟩
theorem eX0_canLet_18 : Dc cX0_canLet 18 (.astore 4) 2 20 := ⟨by decide +kernel, rfl⟩
theorem eX0_canLet_20 : Dc cX0_canLet 20 (.aload_n 3) 1 21 := ⟨by decide +kernel, rfl⟩
theorem eX0_canLet_21 : Dc cX0_canLet 21 (.getfield 307) 3 24 := ⟨by decide +kernel, rfl⟩
theorem eX0_canLet_24 : Dc cX0_canLet 24 (.bipush 6) 2 26 := ⟨by decide +kernel, rfl⟩
theorem eX0_canLet_26 : Dc cX0_canLet 26 (.newarray .int) 2 28 := ⟨by decide +kernel, rfl⟩
theorem eX0_canLet_28 : Dc cX0_canLet 28 (.dup) 1 29 := ⟨by decide +kernel, rfl⟩
theorem eX0_canLet_29 : Dc cX0_canLet 29 (.iconst 0) 1 30 := ⟨by decide +kernel, rfl⟩
theorem eX0_canLet_30 : Dc cX0_canLet 30 (.aload_n 0) 1 31 := ⟨by decide +kernel, rfl⟩
theorem eX0_canLet_31 : Dc cX0_canLet 31 (.aload 4) 2 33 := ⟨by decide +kernel, rfl⟩
theorem eX0_canLet_33 : Dc cX0_canLet 33 (.invokevirtual 273) 3 36 := ⟨by decide +kernel, rfl⟩
theorem eX0_canLet_36 : Dc cX0_canLet 36 (.bipush 10) 2 38 := ⟨by decide +kernel, rfl⟩
theorem eX0_canLet_38 : Dc cX0_canLet 38 (.idiv) 1 39 := ⟨by decide +kernel, rfl⟩
theorem eX0_canLet_39 : Dc cX0_canLet 39 (.iastore) 1 40 := ⟨by decide +kernel, rfl⟩
theorem eX0_canLet_40 : Dc cX0_canLet 40 (.dup) 1 41 := ⟨by decide +kernel, rfl⟩
theorem eX0_canLet_41 : Dc cX0_canLet 41 (.iconst 1) 1 42 := ⟨by decide +kernel, rfl⟩
theorem eX0_canLet_42 : Dc cX0_canLet 42 (.aload 4) 2 44 := ⟨by decide +kernel, rfl⟩
theorem eX0_canLet_44 : Dc cX0_canLet 44 (.getfield 221) 3 47 := ⟨by decide +kernel, rfl⟩
theorem eX0_canLet_47 : Dc cX0_canLet 47 (.getfield 311) 3 50 := ⟨by decide +kernel, rfl⟩
theorem eX0_canLet_50 : Dc cX0_canLet 50 (.aload 4) 2 52 := ⟨by decide +kernel, rfl⟩
theorem eX0_canLet_52 : Dc cX0_canLet 52 (.getfield 206) 3 55 := ⟨by decide +kernel, rfl⟩
theorem eX0_canLet_55 : Dc cX0_canLet 55 (.getfield 311) 3 58 := ⟨by decide +kernel, rfl⟩
theorem eX0_canLet_58 : Dc cX0_canLet 58 (.iadd) 1 59 := ⟨by decide +kernel, rfl⟩
theorem eX0_canLet_59 : Dc cX0_canLet 59 (.iastore) 1 60 := ⟨by decide +kernel, rfl⟩
theorem eX0_canLet_60 : Dc cX0_canLet 60 (.dup) 1 61 := ⟨by decide +kernel, rfl⟩
theorem eX0_canLet_61 : Dc cX0_canLet 61 (.iconst 2) 1 62 := ⟨by decide +kernel, rfl⟩
theorem eX0_canLet_62 : Dc cX0_canLet 62 (.aload_n 0) 1 63 := ⟨by decide +kernel, rfl⟩
theorem eX0_canLet_63 : Dc cX0_canLet 63 (.aload 4) 2 65 := ⟨by decide +kernel, rfl⟩
theorem eX0_canLet_65 : Dc cX0_canLet 65 (.iconst 2) 1 66 := ⟨by decide +kernel, rfl⟩
theorem eX0_canLet_66 : Dc cX0_canLet 66 (.invokevirtual 314) 3 69 := ⟨by decide +kernel, rfl⟩
theorem eX0_canLet_69 : Dc cX0_canLet 69 (.iastore) 1 70 := ⟨by decide +kernel, rfl⟩
theorem eX0_canLet_70 : Dc cX0_canLet 70 (.dup) 1 71 := ⟨by decide +kernel, rfl⟩
theorem eX0_canLet_71 : Dc cX0_canLet 71 (.iconst 3) 1 72 := ⟨by decide +kernel, rfl⟩
theorem eX0_canLet_72 : Dc cX0_canLet 72 (.aload_n 0) 1 73 := ⟨by decide +kernel, rfl⟩
theorem eX0_canLet_73 : Dc cX0_canLet 73 (.aload 4) 2 75 := ⟨by decide +kernel, rfl⟩
theorem eX0_canLet_75 : Dc cX0_canLet 75 (.iconst 1) 1 76 := ⟨by decide +kernel, rfl⟩
theorem eX0_canLet_76 : Dc cX0_canLet 76 (.invokevirtual 314) 3 79 := ⟨by decide +kernel, rfl⟩
theorem eX0_canLet_79 : Dc cX0_canLet 79 (.iastore) 1 80 := ⟨by decide +kernel, rfl⟩
theorem eX0_canLet_80 : Dc cX0_canLet 80 (.dup) 1 81 := ⟨by decide +kernel, rfl⟩
theorem eX0_canLet_81 : Dc cX0_canLet 81 (.iconst 4) 1 82 := ⟨by decide +kernel, rfl⟩
theorem eX0_canLet_82 : Dc cX0_canLet 82 (.aload_n 0) 1 83 := ⟨by decide +kernel, rfl⟩
theorem eX0_canLet_83 : Dc cX0_canLet 83 (.aload 4) 2 85 := ⟨by decide +kernel, rfl⟩
theorem eX0_canLet_85 : Dc cX0_canLet 85 (.invokevirtual 317) 3 88 := ⟨by decide +kernel, rfl⟩
theorem eX0_canLet_88 : Dc cX0_canLet 88 (.iastore) 1 89 := ⟨by decide +kernel, rfl⟩
theorem eX0_canLet_89 : Dc cX0_canLet 89 (.dup) 1 90 := ⟨by decide +kernel, rfl⟩
theorem eX0_canLet_90 : Dc cX0_canLet 90 (.iconst 5) 1 91 := ⟨by decide +kernel, rfl⟩
theorem eX0_canLet_91 : Dc cX0_canLet 91 (.aload 4) 2 93 := ⟨by decide +kernel, rfl⟩
theorem eX0_canLet_93 : Dc cX0_canLet 93 (.getfield 320) 3 96 := ⟨by decide +kernel, rfl⟩
theorem eX0_canLet_96 : Dc cX0_canLet 96 (.iastore) 1 97 := ⟨by decide +kernel, rfl⟩
theorem eX0_canLet_97 : Dc cX0_canLet 97 (.invokevirtual 323) 3 100 := ⟨by decide +kernel, rfl⟩
theorem eX0_canLet_100 : Dc cX0_canLet 100 (.ireturn) 1 101 := ⟨by decide +kernel, rfl⟩
theorem eX0_cellsOf_0 : Dc cX0_cellsOf 0 (.iconst 0) 1 1 := ⟨by decide +kernel, rfl⟩
theorem eX0_cellsOf_1 : Dc cX0_cellsOf 1 (.istore_n 3) 1 2 := ⟨by decide +kernel, rfl⟩
theorem eX0_cellsOf_2 : Dc cX0_cellsOf 2 (.iconst 0) 1 3 := ⟨by decide +kernel, rfl⟩
theorem eX0_cellsOf_3 : Dc cX0_cellsOf 3 (.istore 4) 2 5 := ⟨by decide +kernel, rfl⟩
theorem eX0_cellsOf_5 : Dc cX0_cellsOf 5 (.iload 4) 2 7 := ⟨by decide +kernel, rfl⟩
theorem eX0_cellsOf_7 : Dc cX0_cellsOf 7 (.aload_n 1) 1 8 := ⟨by decide +kernel, rfl⟩
theorem eX0_cellsOf_8 : Dc cX0_cellsOf 8 (.getfield 228) 3 11 := ⟨by decide +kernel, rfl⟩
theorem eX0_cellsOf_11 : Db cX0_cellsOf 11 (fun o => .if_icmp .ge o) 44 14 := ⟨33, by decide +kernel, by decide, rfl⟩
theorem eX0_cellsOf_14 : Dc cX0_cellsOf 14 (.iload_n 3) 1 15 := ⟨by decide +kernel, rfl⟩
theorem eX0_cellsOf_15 : Dc cX0_cellsOf 15 (.aload_n 0) 1 16 := ⟨by decide +kernel, rfl⟩
theorem eX0_cellsOf_16 : Dc cX0_cellsOf 16 (.getfield 21) 3 19 := ⟨by decide +kernel, rfl⟩
theorem eX0_cellsOf_19 : Dc cX0_cellsOf 19 (.aload_n 1) 1 20 := ⟨by decide +kernel, rfl⟩
theorem eX0_cellsOf_20 : Dc cX0_cellsOf 20 (.getfield 203) 3 23 := ⟨by decide +kernel, rfl⟩
theorem eX0_cellsOf_23 : Dc cX0_cellsOf 23 (.iload 4) 2 25 := ⟨by decide +kernel, rfl⟩
theorem eX0_cellsOf_25 : Dc cX0_cellsOf 25 (.iaload) 1 26 := ⟨by decide +kernel, rfl⟩
theorem eX0_cellsOf_26 : Dc cX0_cellsOf 26 (.iaload) 1 27 := ⟨by decide +kernel, rfl⟩
theorem eX0_cellsOf_27 : Dc cX0_cellsOf 27 (.iload_n 2) 1 28 := ⟨by decide +kernel, rfl⟩
theorem eX0_cellsOf_28 : Db cX0_cellsOf 28 (fun o => .if_icmp .ne o) 35 31 := ⟨7, by decide +kernel, by decide, rfl⟩
theorem eX0_cellsOf_31 : Dc cX0_cellsOf 31 (.iconst 1) 1 32 := ⟨by decide +kernel, rfl⟩
theorem eX0_cellsOf_32 : Db cX0_cellsOf 32 (fun o => .goto o) 36 35 := ⟨4, by decide +kernel, by decide, rfl⟩
theorem eX0_cellsOf_35 : Dc cX0_cellsOf 35 (.iconst 0) 1 36 := ⟨by decide +kernel, rfl⟩
theorem eX0_cellsOf_36 : Dc cX0_cellsOf 36 (.iadd) 1 37 := ⟨by decide +kernel, rfl⟩
theorem eX0_cellsOf_37 : Dc cX0_cellsOf 37 (.istore_n 3) 1 38 := ⟨by decide +kernel, rfl⟩
theorem eX0_cellsOf_38 : Dc cX0_cellsOf 38 (.iinc 4 1) 3 41 := ⟨by decide +kernel, rfl⟩
theorem eX0_cellsOf_41 : Db cX0_cellsOf 41 (fun o => .goto o) 5 44 := ⟨-36, by decide +kernel, by decide, rfl⟩
theorem eX0_cellsOf_44 : Dc cX0_cellsOf 44 (.iload_n 3) 1 45 := ⟨by decide +kernel, rfl⟩
theorem eX0_cellsOf_45 : Dc cX0_cellsOf 45 (.ireturn) 1 46 := ⟨by decide +kernel, rfl⟩
theorem eX0_claimsOn_0 : Dc cX0_claimsOn 0 (.iconst 0) 1 1 := ⟨by decide +kernel, rfl⟩
theorem eX0_claimsOn_1 : Dc cX0_claimsOn 1 (.istore_n 2) 1 2 := ⟨by decide +kernel, rfl⟩
theorem eX0_claimsOn_2 : Dc cX0_claimsOn 2 (.iconst 0) 1 3 := ⟨by decide +kernel, rfl⟩
theorem eX0_claimsOn_3 : Dc cX0_claimsOn 3 (.istore 4) 2 5 := ⟨by decide +kernel, rfl⟩
theorem eX0_claimsOn_5 : Dc cX0_claimsOn 5 (.iload 4) 2 7 := ⟨by decide +kernel, rfl⟩
theorem eX0_claimsOn_7 : Dc cX0_claimsOn 7 (.aload_n 0) 1 8 := ⟨by decide +kernel, rfl⟩
theorem eX0_claimsOn_8 : Dc cX0_claimsOn 8 (.getfield 121) 3 11 := ⟨by decide +kernel, rfl⟩
theorem eX0_claimsOn_11 : Dc cX0_claimsOn 11 (.invokevirtual 32) 3 14 := ⟨by decide +kernel, rfl⟩
theorem eX0_claimsOn_14 : Db cX0_claimsOn 14 (fun o => .if_icmp .ge o) 66 17 := ⟨52, by decide +kernel, by decide, rfl⟩
theorem eX0_claimsOn_17 : Dc cX0_claimsOn 17 (.aload_n 0) 1 18 := ⟨by decide +kernel, rfl⟩
theorem eX0_claimsOn_18 : Dc cX0_claimsOn 18 (.getfield 121) 3 21 := ⟨by decide +kernel, rfl⟩
theorem eX0_claimsOn_21 : Dc cX0_claimsOn 21 (.iload 4) 2 23 := ⟨by decide +kernel, rfl⟩
theorem eX0_claimsOn_23 : Dc cX0_claimsOn 23 (.invokevirtual 38) 3 26 := ⟨by decide +kernel, rfl⟩
theorem eX0_claimsOn_26 : Dc cX0_claimsOn 26 (.astore 5) 2 28 := ⟨by decide +kernel, rfl⟩
theorem eX0_claimsOn_28 : Dc cX0_claimsOn 28 (.aload 5) 2 30 := ⟨by decide +kernel, rfl⟩
theorem eX0_claimsOn_30 : Dc cX0_claimsOn 30 (.instanceof 295) 3 33 := ⟨by decide +kernel, rfl⟩
theorem eX0_claimsOn_33 : Db cX0_claimsOn 33 (fun o => .ifCond .eq o) 60 36 := ⟨27, by decide +kernel, by decide, rfl⟩
theorem eX0_claimsOn_36 : Dc cX0_claimsOn 36 (.aload 5) 2 38 := ⟨by decide +kernel, rfl⟩
theorem eX0_claimsOn_38 : Dc cX0_claimsOn 38 (.checkcast 295) 3 41 := ⟨by decide +kernel, rfl⟩
theorem eX0_claimsOn_41 : Dc cX0_claimsOn 41 (.astore_n 3) 1 42 := ⟨by decide +kernel, rfl⟩
theorem eX0_claimsOn_42 : Dc cX0_claimsOn 42 (.aload_n 1) 1 43 := ⟨by decide +kernel, rfl⟩
theorem eX0_claimsOn_43 : Dc cX0_claimsOn 43 (.aload_n 3) 1 44 := ⟨by decide +kernel, rfl⟩
theorem eX0_claimsOn_44 : Dc cX0_claimsOn 44 (.getfield 300) 3 47 := ⟨by decide +kernel, rfl⟩
theorem eX0_claimsOn_47 : Dc cX0_claimsOn 47 (.invokevirtual 218) 3 50 := ⟨by decide +kernel, rfl⟩
theorem eX0_claimsOn_50 : Db cX0_claimsOn 50 (fun o => .ifCond .eq o) 60 53 := ⟨10, by decide +kernel, by decide, rfl⟩
theorem eX0_claimsOn_53 : Dc cX0_claimsOn 53 (.iload_n 2) 1 54 := ⟨by decide +kernel, rfl⟩
theorem eX0_claimsOn_54 : Dc cX0_claimsOn 54 (.aload_n 3) 1 55 := ⟨by decide +kernel, rfl⟩
theorem eX0_claimsOn_55 : Dc cX0_claimsOn 55 (.getfield 301) 3 58 := ⟨by decide +kernel, rfl⟩
theorem eX0_claimsOn_58 : Dc cX0_claimsOn 58 (.iadd) 1 59 := ⟨by decide +kernel, rfl⟩
theorem eX0_claimsOn_59 : Dc cX0_claimsOn 59 (.istore_n 2) 1 60 := ⟨by decide +kernel, rfl⟩
theorem eX0_claimsOn_60 : Dc cX0_claimsOn 60 (.iinc 4 1) 3 63 := ⟨by decide +kernel, rfl⟩
theorem eX0_claimsOn_63 : Db cX0_claimsOn 63 (fun o => .goto o) 5 66 := ⟨-58, by decide +kernel, by decide, rfl⟩
theorem eX0_claimsOn_66 : Dc cX0_claimsOn 66 (.iload_n 2) 1 67 := ⟨by decide +kernel, rfl⟩
theorem eX0_claimsOn_67 : Dc cX0_claimsOn 67 (.ireturn) 1 68 := ⟨by decide +kernel, rfl⟩
theorem eX0_bar_0 : Dc cX0_bar 0 (.aload_n 0) 1 1 := ⟨by decide +kernel, rfl⟩
theorem eX0_bar_1 : Dc cX0_bar 1 (.iload_n 1) 1 2 := ⟨by decide +kernel, rfl⟩
theorem eX0_bar_2 : Dc cX0_bar 2 (.invokevirtual 332) 3 5 := ⟨by decide +kernel, rfl⟩
theorem eX0_bar_5 : Dc cX0_bar 5 (.astore_n 3) 1 6 := ⟨by decide +kernel, rfl⟩
theorem eX0_bar_6 : Dc cX0_bar 6 (.aload_n 0) 1 7 := ⟨by decide +kernel, rfl⟩
theorem eX0_bar_7 : Dc cX0_bar 7 (.iload_n 2) 1 8 := ⟨by decide +kernel, rfl⟩
theorem eX0_bar_8 : Dc cX0_bar 8 (.invokevirtual 332) 3 11 := ⟨by decide +kernel, rfl⟩
theorem eX0_bar_11 : Dc cX0_bar 11 (.astore 4) 2 13 := ⟨by decide +kernel, rfl⟩
theorem eX0_bar_13 : Dc cX0_bar 13 (.aload_n 3) 1 14 := ⟨by decide +kernel, rfl⟩
theorem eX0_bar_14 : Db cX0_bar 14 (fun o => .ifnull o) 22 17 := ⟨8, by decide +kernel, by decide, rfl⟩
theorem eX0_bar_17 : Dc cX0_bar 17 (.aload 4) 2 19 := ⟨by decide +kernel, rfl⟩
theorem eX0_bar_19 : Db cX0_bar 19 (fun o => .ifnonnull o) 24 22 := ⟨5, by decide +kernel, by decide, rfl⟩
theorem eX0_bar_22 : Dc cX0_bar 22 (.iconst (-1)) 1 23 := ⟨by decide +kernel, rfl⟩
theorem eX0_bar_23 : Dc cX0_bar 23 (.ireturn) 1 24 := ⟨by decide +kernel, rfl⟩
theorem eX0_bar_24 : Dc cX0_bar 24 (.aload_n 3) 1 25 := ⟨by decide +kernel, rfl⟩
theorem eX0_bar_25 : Dc cX0_bar 25 (.aload 4) 2 27 := ⟨by decide +kernel, rfl⟩
theorem eX0_bar_27 : Db cX0_bar 27 (fun o => .if_acmp .ne o) 33 30 := ⟨6, by decide +kernel, by decide, rfl⟩
theorem eX0_bar_30 : Dc cX0_bar 30 (.bipush (-2)) 2 32 := ⟨by decide +kernel, rfl⟩
theorem eX0_bar_32 : Dc cX0_bar 32 (.ireturn) 1 33 := ⟨by decide +kernel, rfl⟩
theorem eX0_bar_33 : Dc cX0_bar 33 (.aload_n 3) 1 34 := ⟨by decide +kernel, rfl⟩
theorem eX0_bar_34 : Dc cX0_bar 34 (.getfield 340) 3 37 := ⟨by decide +kernel, rfl⟩
theorem eX0_bar_37 : Dc cX0_bar 37 (.iload_n 2) 1 38 := ⟨by decide +kernel, rfl⟩
theorem eX0_bar_38 : Dc cX0_bar 38 (.lshr) 1 39 := ⟨by decide +kernel, rfl⟩
theorem eX0_bar_39 : Dc cX0_bar 39 (.lconst 1) 1 40 := ⟨by decide +kernel, rfl⟩
theorem eX0_bar_40 : Dc cX0_bar 40 (.land) 1 41 := ⟨by decide +kernel, rfl⟩
theorem eX0_bar_41 : Dc cX0_bar 41 (.lconst 1) 1 42 := ⟨by decide +kernel, rfl⟩
theorem eX0_bar_42 : Dc cX0_bar 42 (.lcmp) 1 43 := ⟨by decide +kernel, rfl⟩
theorem eX0_bar_43 : Db cX0_bar 43 (fun o => .ifCond .ne o) 50 46 := ⟨7, by decide +kernel, by decide, rfl⟩
theorem eX0_bar_46 : Dc cX0_bar 46 (.iconst 0) 1 47 := ⟨by decide +kernel, rfl⟩
theorem eX0_bar_47 : Db cX0_bar 47 (fun o => .goto o) 51 50 := ⟨4, by decide +kernel, by decide, rfl⟩
theorem eX0_bar_50 : Dc cX0_bar 50 (.iconst 1) 1 51 := ⟨by decide +kernel, rfl⟩
theorem eX0_bar_51 : Dc cX0_bar 51 (.istore 5) 2 53 := ⟨by decide +kernel, rfl⟩
theorem eX0_bar_53 : Dc cX0_bar 53 (.aload_n 3) 1 54 := ⟨by decide +kernel, rfl⟩
theorem eX0_bar_54 : Dc cX0_bar 54 (.dup) 1 55 := ⟨by decide +kernel, rfl⟩
theorem eX0_bar_55 : Dc cX0_bar 55 (.getfield 340) 3 58 := ⟨by decide +kernel, rfl⟩
theorem eX0_bar_58 : Dc cX0_bar 58 (.lconst 1) 1 59 := ⟨by decide +kernel, rfl⟩
theorem eX0_bar_59 : Dc cX0_bar 59 (.iload_n 2) 1 60 := ⟨by decide +kernel, rfl⟩
theorem eX0_bar_60 : Dc cX0_bar 60 (.lshl) 1 61 := ⟨by decide +kernel, rfl⟩
theorem eX0_bar_61 : Dc cX0_bar 61 (.lor) 1 62 := ⟨by decide +kernel, rfl⟩
theorem eX0_bar_62 : Dc cX0_bar 62 (.putfield 340) 3 65 := ⟨by decide +kernel, rfl⟩
theorem eX0_bar_65 : Dc cX0_bar 65 (.aload 4) 2 67 := ⟨by decide +kernel, rfl⟩
theorem eX0_bar_67 : Dc cX0_bar 67 (.dup) 1 68 := ⟨by decide +kernel, rfl⟩
theorem eX0_bar_68 : Dc cX0_bar 68 (.getfield 340) 3 71 := ⟨by decide +kernel, rfl⟩
theorem eX0_bar_71 : Dc cX0_bar 71 (.lconst 1) 1 72 := ⟨by decide +kernel, rfl⟩
theorem eX0_bar_72 : Dc cX0_bar 72 (.iload_n 1) 1 73 := ⟨by decide +kernel, rfl⟩
theorem eX0_bar_73 : Dc cX0_bar 73 (.lshl) 1 74 := ⟨by decide +kernel, rfl⟩
theorem eX0_bar_74 : Dc cX0_bar 74 (.lor) 1 75 := ⟨by decide +kernel, rfl⟩
theorem eX0_bar_75 : Dc cX0_bar 75 (.putfield 340) 3 78 := ⟨by decide +kernel, rfl⟩
theorem eX0_bar_78 : Dc cX0_bar 78 (.iload 5) 2 80 := ⟨by decide +kernel, rfl⟩
theorem eX0_bar_80 : Dc cX0_bar 80 (.ireturn) 1 81 := ⟨by decide +kernel, rfl⟩
theorem eX0_grant_0 : Dc cX0_grant 0 (.aload_n 0) 1 1 := ⟨by decide +kernel, rfl⟩
theorem eX0_grant_1 : Dc cX0_grant 1 (.iload_n 1) 1 2 := ⟨by decide +kernel, rfl⟩
theorem eX0_grant_2 : Dc cX0_grant 2 (.invokevirtual 332) 3 5 := ⟨by decide +kernel, rfl⟩
theorem eX0_grant_5 : Dc cX0_grant 5 (.astore_n 2) 1 6 := ⟨by decide +kernel, rfl⟩
theorem eX0_grant_6 : Dc cX0_grant 6 (.aload_n 2) 1 7 := ⟨by decide +kernel, rfl⟩
theorem eX0_grant_7 : Db cX0_grant 7 (fun o => .ifnonnull o) 12 10 := ⟨5, by decide +kernel, by decide, rfl⟩
theorem eX0_grant_10 : Dc cX0_grant 10 (.iconst (-1)) 1 11 := ⟨by decide +kernel, rfl⟩
theorem eX0_grant_11 : Dc cX0_grant 11 (.ireturn) 1 12 := ⟨by decide +kernel, rfl⟩
theorem eX0_grant_12 : Dc cX0_grant 12 (.aload_n 2) 1 13 := ⟨by decide +kernel, rfl⟩
theorem eX0_grant_13 : Dc cX0_grant 13 (.getfield 344) 3 16 := ⟨by decide +kernel, rfl⟩
theorem eX0_grant_16 : Db cX0_grant 16 (fun o => .ifCond .ne o) 35 19 := ⟨19, by decide +kernel, by decide, rfl⟩
theorem eX0_grant_19 : Dc cX0_grant 19 (.aload_n 0) 1 20 := ⟨by decide +kernel, rfl⟩
theorem eX0_grant_20 : Dc cX0_grant 20 (.aload_n 2) 1 21 := ⟨by decide +kernel, rfl⟩
theorem eX0_grant_21 : Dc cX0_grant 21 (.aload_n 0) 1 22 := ⟨by decide +kernel, rfl⟩
theorem eX0_grant_22 : Dc cX0_grant 22 (.getfield 194) 3 25 := ⟨by decide +kernel, rfl⟩
theorem eX0_grant_25 : Dc cX0_grant 25 (.invokevirtual 336) 3 28 := ⟨by decide +kernel, rfl⟩
theorem eX0_grant_28 : Db cX0_grant 28 (fun o => .ifCond .eq o) 35 31 := ⟨7, by decide +kernel, by decide, rfl⟩
theorem eX0_grant_31 : Dc cX0_grant 31 (.iconst 1) 1 32 := ⟨by decide +kernel, rfl⟩
theorem eX0_grant_32 : Db cX0_grant 32 (fun o => .goto o) 36 35 := ⟨4, by decide +kernel, by decide, rfl⟩
theorem eX0_grant_35 : Dc cX0_grant 35 (.iconst 0) 1 36 := ⟨by decide +kernel, rfl⟩
theorem eX0_grant_36 : Dc cX0_grant 36 (.istore_n 3) 1 37 := ⟨by decide +kernel, rfl⟩
theorem eX0_grant_37 : Dc cX0_grant 37 (.iconst 0) 1 38 := ⟨by decide +kernel, rfl⟩
theorem eX0_grant_38 : Dc cX0_grant 38 (.istore 5) 2 40 := ⟨by decide +kernel, rfl⟩
theorem eX0_grant_40 : Dc cX0_grant 40 (.iload 5) 2 42 := ⟨by decide +kernel, rfl⟩
theorem eX0_grant_42 : Dc cX0_grant 42 (.aload_n 0) 1 43 := ⟨by decide +kernel, rfl⟩
theorem eX0_grant_43 : Dc cX0_grant 43 (.getfield 121) 3 46 := ⟨by decide +kernel, rfl⟩
theorem eX0_grant_46 : Dc cX0_grant 46 (.invokevirtual 32) 3 49 := ⟨by decide +kernel, rfl⟩
theorem eX0_grant_49 : Db cX0_grant 49 (fun o => .if_icmp .ge o) 114 52 := ⟨65, by decide +kernel, by decide, rfl⟩
theorem eX0_grant_52 : Dc cX0_grant 52 (.iload_n 3) 1 53 := ⟨by decide +kernel, rfl⟩
theorem eX0_grant_53 : Dc cX0_grant 53 (.aload_n 0) 1 54 := ⟨by decide +kernel, rfl⟩
theorem eX0_grant_54 : Dc cX0_grant 54 (.getfield 121) 3 57 := ⟨by decide +kernel, rfl⟩
theorem eX0_grant_57 : Dc cX0_grant 57 (.iload 5) 2 59 := ⟨by decide +kernel, rfl⟩
theorem eX0_grant_59 : Dc cX0_grant 59 (.invokevirtual 38) 3 62 := ⟨by decide +kernel, rfl⟩
theorem eX0_grant_62 : Dc cX0_grant 62 (.astore 6) 2 64 := ⟨by decide +kernel, rfl⟩
theorem eX0_grant_64 : Dc cX0_grant 64 (.aload 6) 2 66 := ⟨by decide +kernel, rfl⟩
theorem eX0_grant_66 : Dc cX0_grant 66 (.instanceof 136) 3 69 := ⟨by decide +kernel, rfl⟩
theorem eX0_grant_69 : Db cX0_grant 69 (fun o => .ifCond .eq o) 101 72 := ⟨32, by decide +kernel, by decide, rfl⟩
theorem eX0_grant_72 : Dc cX0_grant 72 (.aload 6) 2 74 := ⟨by decide +kernel, rfl⟩
theorem eX0_grant_74 : Dc cX0_grant 74 (.checkcast 136) 3 77 := ⟨by decide +kernel, rfl⟩
theorem eX0_grant_77 : Dc cX0_grant 77 (.astore 4) 2 79 := ⟨by decide +kernel, rfl⟩
theorem eX0_grant_79 : Dc cX0_grant 79 (.aload 4) 2 81 := ⟨by decide +kernel, rfl⟩
theorem eX0_grant_81 : Dc cX0_grant 81 (.getfield 344) 3 84 := ⟨by decide +kernel, rfl⟩
theorem eX0_grant_84 : Db cX0_grant 84 (fun o => .ifCond .eq o) 101 87 := ⟨17, by decide +kernel, by decide, rfl⟩
theorem eX0_grant_87 : Dc cX0_grant 87 (.aload_n 2) 1 88 := ⟨by decide +kernel, rfl⟩
theorem eX0_grant_88 : Dc cX0_grant 88 (.getfield 340) 3 91 := ⟨by decide +kernel, rfl⟩
theorem eX0_grant_91 : Dc cX0_grant 91 (.iload 5) 2 93 := ⟨by decide +kernel, rfl⟩
theorem eX0_grant_93 : Dc cX0_grant 93 (.lshr) 1 94 := ⟨by decide +kernel, rfl⟩
theorem eX0_grant_94 : Dc cX0_grant 94 (.lconst 1) 1 95 := ⟨by decide +kernel, rfl⟩
theorem eX0_grant_95 : Dc cX0_grant 95 (.land) 1 96 := ⟨by decide +kernel, rfl⟩
theorem eX0_grant_96 : Dc cX0_grant 96 (.lconst 1) 1 97 := ⟨by decide +kernel, rfl⟩
theorem eX0_grant_97 : Dc cX0_grant 97 (.lcmp) 1 98 := ⟨by decide +kernel, rfl⟩
theorem eX0_grant_98 : Db cX0_grant 98 (fun o => .ifCond .eq o) 105 101 := ⟨7, by decide +kernel, by decide, rfl⟩
theorem eX0_grant_101 : Dc cX0_grant 101 (.iconst 1) 1 102 := ⟨by decide +kernel, rfl⟩
theorem eX0_grant_102 : Db cX0_grant 102 (fun o => .goto o) 106 105 := ⟨4, by decide +kernel, by decide, rfl⟩
theorem eX0_grant_105 : Dc cX0_grant 105 (.iconst 0) 1 106 := ⟨by decide +kernel, rfl⟩
theorem eX0_grant_106 : Dc cX0_grant 106 (.iand) 1 107 := ⟨by decide +kernel, rfl⟩
theorem eX0_grant_107 : Dc cX0_grant 107 (.istore_n 3) 1 108 := ⟨by decide +kernel, rfl⟩
theorem eX0_grant_108 : Dc cX0_grant 108 (.iinc 5 1) 3 111 := ⟨by decide +kernel, rfl⟩
theorem eX0_grant_111 : Db cX0_grant 111 (fun o => .goto o) 40 114 := ⟨-71, by decide +kernel, by decide, rfl⟩
theorem eX0_grant_114 : Dc cX0_grant 114 (.iload_n 3) 1 115 := ⟨by decide +kernel, rfl⟩
theorem eX0_grant_115 : Db cX0_grant 115 (fun o => .ifCond .ne o) 121 118 := ⟨6, by decide +kernel, by decide, rfl⟩
theorem eX0_grant_118 : Dc cX0_grant 118 (.bipush (-3)) 2 120 := ⟨by decide +kernel, rfl⟩
theorem eX0_grant_120 : Dc cX0_grant 120 (.ireturn) 1 121 := ⟨by decide +kernel, rfl⟩
theorem eX0_grant_121 : Dc cX0_grant 121 (.aload_n 2) 1 122 := ⟨by decide +kernel, rfl⟩
theorem eX0_grant_122 : Dc cX0_grant 122 (.iconst 1) 1 123 := ⟨by decide +kernel, rfl⟩
theorem eX0_grant_123 : Dc cX0_grant 123 (.putfield 344) 3 126 := ⟨by decide +kernel, rfl⟩
theorem eX0_grant_126 : Dc cX0_grant 126 (.aload_n 2) 1 127 := ⟨by decide +kernel, rfl⟩
theorem eX0_grant_127 : Dc cX0_grant 127 (.aload_n 0) 1 128 := ⟨by decide +kernel, rfl⟩
theorem eX0_grant_128 : Dc cX0_grant 128 (.aload_n 2) 1 129 := ⟨by decide +kernel, rfl⟩
theorem eX0_grant_129 : Dc cX0_grant 129 (.getfield 303) 3 132 := ⟨by decide +kernel, rfl⟩
theorem eX0_grant_132 : Dc cX0_grant 132 (.invokevirtual 273) 3 135 := ⟨by decide +kernel, rfl⟩
theorem eX0_grant_135 : Dc cX0_grant 135 (.putfield 348) 3 138 := ⟨by decide +kernel, rfl⟩
theorem eX0_grant_138 : Dc cX0_grant 138 (.aload_n 0) 1 139 := ⟨by decide +kernel, rfl⟩
theorem eX0_grant_139 : Dc cX0_grant 139 (.invokevirtual 351) 3 142 := ⟨by decide +kernel, rfl⟩
theorem eX0_grant_142 : Dc cX0_grant 142 (.ireturn) 1 143 := ⟨by decide +kernel, rfl⟩
theorem eX0_grantedMany_0 : Dc cX0_grantedMany 0 (.iconst 0) 1 1 := ⟨by decide +kernel, rfl⟩
theorem eX0_grantedMany_1 : Dc cX0_grantedMany 1 (.istore_n 1) 1 2 := ⟨by decide +kernel, rfl⟩
theorem eX0_grantedMany_2 : Dc cX0_grantedMany 2 (.iconst 0) 1 3 := ⟨by decide +kernel, rfl⟩
theorem eX0_grantedMany_3 : Dc cX0_grantedMany 3 (.istore_n 3) 1 4 := ⟨by decide +kernel, rfl⟩
theorem eX0_grantedMany_4 : Dc cX0_grantedMany 4 (.iload_n 3) 1 5 := ⟨by decide +kernel, rfl⟩
theorem eX0_grantedMany_5 : Dc cX0_grantedMany 5 (.aload_n 0) 1 6 := ⟨by decide +kernel, rfl⟩
theorem eX0_grantedMany_6 : Dc cX0_grantedMany 6 (.getfield 121) 3 9 := ⟨by decide +kernel, rfl⟩
theorem eX0_grantedMany_9 : Dc cX0_grantedMany 9 (.invokevirtual 32) 3 12 := ⟨by decide +kernel, rfl⟩
theorem eX0_grantedMany_12 : Db cX0_grantedMany 12 (fun o => .if_icmp .ge o) 60 15 := ⟨48, by decide +kernel, by decide, rfl⟩
theorem eX0_grantedMany_15 : Dc cX0_grantedMany 15 (.iload_n 1) 1 16 := ⟨by decide +kernel, rfl⟩
theorem eX0_grantedMany_16 : Dc cX0_grantedMany 16 (.aload_n 0) 1 17 := ⟨by decide +kernel, rfl⟩
theorem eX0_grantedMany_17 : Dc cX0_grantedMany 17 (.getfield 121) 3 20 := ⟨by decide +kernel, rfl⟩
theorem eX0_grantedMany_20 : Dc cX0_grantedMany 20 (.iload_n 3) 1 21 := ⟨by decide +kernel, rfl⟩
theorem eX0_grantedMany_21 : Dc cX0_grantedMany 21 (.invokevirtual 38) 3 24 := ⟨by decide +kernel, rfl⟩
theorem eX0_grantedMany_24 : Dc cX0_grantedMany 24 (.astore 4) 2 26 := ⟨by decide +kernel, rfl⟩
theorem eX0_grantedMany_26 : Dc cX0_grantedMany 26 (.aload 4) 2 28 := ⟨by decide +kernel, rfl⟩
theorem eX0_grantedMany_28 : Dc cX0_grantedMany 28 (.instanceof 136) 3 31 := ⟨by decide +kernel, rfl⟩
theorem eX0_grantedMany_31 : Db cX0_grantedMany 31 (fun o => .ifCond .eq o) 51 34 := ⟨20, by decide +kernel, by decide, rfl⟩
theorem eX0_grantedMany_34 : Dc cX0_grantedMany 34 (.aload 4) 2 36 := ⟨by decide +kernel, rfl⟩
theorem eX0_grantedMany_36 : Dc cX0_grantedMany 36 (.checkcast 136) 3 39 := ⟨by decide +kernel, rfl⟩
theorem eX0_grantedMany_39 : Dc cX0_grantedMany 39 (.astore_n 2) 1 40 := ⟨by decide +kernel, rfl⟩
theorem eX0_grantedMany_40 : Dc cX0_grantedMany 40 (.aload_n 2) 1 41 := ⟨by decide +kernel, rfl⟩
theorem eX0_grantedMany_41 : Dc cX0_grantedMany 41 (.getfield 344) 3 44 := ⟨by decide +kernel, rfl⟩
theorem eX0_grantedMany_44 : Db cX0_grantedMany 44 (fun o => .ifCond .eq o) 51 47 := ⟨7, by decide +kernel, by decide, rfl⟩
theorem eX0_grantedMany_47 : Dc cX0_grantedMany 47 (.iconst 1) 1 48 := ⟨by decide +kernel, rfl⟩
theorem eX0_grantedMany_48 : Db cX0_grantedMany 48 (fun o => .goto o) 52 51 := ⟨4, by decide +kernel, by decide, rfl⟩
theorem eX0_grantedMany_51 : Dc cX0_grantedMany 51 (.iconst 0) 1 52 := ⟨by decide +kernel, rfl⟩
theorem eX0_grantedMany_52 : Dc cX0_grantedMany 52 (.iadd) 1 53 := ⟨by decide +kernel, rfl⟩
theorem eX0_grantedMany_53 : Dc cX0_grantedMany 53 (.istore_n 1) 1 54 := ⟨by decide +kernel, rfl⟩
theorem eX0_grantedMany_54 : Dc cX0_grantedMany 54 (.iinc 3 1) 3 57 := ⟨by decide +kernel, rfl⟩
theorem eX0_grantedMany_57 : Db cX0_grantedMany 57 (fun o => .goto o) 4 60 := ⟨-53, by decide +kernel, by decide, rfl⟩
theorem eX0_grantedMany_60 : Dc cX0_grantedMany 60 (.iload_n 1) 1 61 := ⟨by decide +kernel, rfl⟩
theorem eX0_grantedMany_61 : Dc cX0_grantedMany 61 (.ireturn) 1 62 := ⟨by decide +kernel, rfl⟩
theorem eX0_cast_0 : Dc cX0_cast 0 (.aload_n 0) 1 1 := ⟨by decide +kernel, rfl⟩
theorem eX0_cast_1 : Dc cX0_cast 1 (.iload_n 1) 1 2 := ⟨by decide +kernel, rfl⟩
theorem eX0_cast_2 : Dc cX0_cast 2 (.invokevirtual 126) 3 5 := ⟨by decide +kernel, rfl⟩
theorem eX0_cast_5 : Dc cX0_cast 5 (.astore_n 3) 1 6 := ⟨by decide +kernel, rfl⟩
theorem eX0_cast_6 : Dc cX0_cast 6 (.aload_n 3) 1 7 := ⟨by decide +kernel, rfl⟩
theorem eX0_cast_7 : Db cX0_cast 7 (fun o => .ifnull o) 20 10 := ⟨13, by decide +kernel, by decide, rfl⟩
theorem eX0_cast_10 : Dc cX0_cast 10 (.iload_n 2) 1 11 := ⟨by decide +kernel, rfl⟩
theorem eX0_cast_11 : Dc cX0_cast 11 (.iconst 0) 1 12 := ⟨by decide +kernel, rfl⟩
theorem eX0_cast_12 : Dc cX0_cast 12 (.bipush 6) 2 14 := ⟨by decide +kernel, rfl⟩
theorem eX0_cast_14 : Dc cX0_cast 14 (.invokestatic 3) 3 17 := ⟨by decide +kernel, rfl⟩
theorem eX0_cast_17 : Db cX0_cast 17 (fun o => .ifCond .ne o) 22 20 := ⟨5, by decide +kernel, by decide, rfl⟩
theorem eX0_cast_20 : Dc cX0_cast 20 (.iconst (-1)) 1 21 := ⟨by decide +kernel, rfl⟩
theorem eX0_cast_21 : Dc cX0_cast 21 (.ireturn) 1 22 := ⟨by decide +kernel, rfl⟩
theorem eX0_cast_22 : Dc cX0_cast 22 (.aload_n 3) 1 23 := ⟨by decide +kernel, rfl⟩
theorem eX0_cast_23 : Dc cX0_cast 23 (.iload_n 2) 1 24 := ⟨by decide +kernel, rfl⟩
theorem eX0_cast_24 : Dc cX0_cast 24 (.invokevirtual 354) 3 27 := ⟨by decide +kernel, rfl⟩
theorem eX0_cast_27 : Db cX0_cast 27 (fun o => .ifCond .eq o) 37 30 := ⟨10, by decide +kernel, by decide, rfl⟩
theorem eX0_cast_30 : Dc cX0_cast 30 (.aload_n 3) 1 31 := ⟨by decide +kernel, rfl⟩
theorem eX0_cast_31 : Dc cX0_cast 31 (.invokevirtual 357) 3 34 := ⟨by decide +kernel, rfl⟩
theorem eX0_cast_34 : Db cX0_cast 34 (fun o => .goto o) 39 37 := ⟨5, by decide +kernel, by decide, rfl⟩
theorem eX0_cast_37 : Dc cX0_cast 37 (.bipush (-13)) 2 39 := ⟨by decide +kernel, rfl⟩
theorem eX0_cast_39 : Dc cX0_cast 39 (.ireturn) 1 40 := ⟨by decide +kernel, rfl⟩
theorem eX0_about_0 : Dc cX0_about 0 (.aload_n 0) 1 1 := ⟨by decide +kernel, rfl⟩
theorem eX0_about_1 : Dc cX0_about 1 (.iload_n 1) 1 2 := ⟨by decide +kernel, rfl⟩
theorem eX0_about_2 : Dc cX0_about 2 (.invokevirtual 126) 3 5 := ⟨by decide +kernel, rfl⟩
theorem eX0_about_5 : Dc cX0_about 5 (.astore_n 3) 1 6 := ⟨by decide +kernel, rfl⟩
theorem eX0_about_6 : Dc cX0_about 6 (.aload_n 3) 1 7 := ⟨by decide +kernel, rfl⟩
theorem eX0_about_7 : Db cX0_about 7 (fun o => .ifnonnull o) 12 10 := ⟨5, by decide +kernel, by decide, rfl⟩
theorem eX0_about_10 : Dc cX0_about 10 (.iconst (-1)) 1 11 := ⟨by decide +kernel, rfl⟩
theorem eX0_about_11 : Dc cX0_about 11 (.ireturn) 1 12 := ⟨by decide +kernel, rfl⟩
theorem eX0_about_12 : Dc cX0_about 12 (.iload_n 2) 1 13 := ⟨by decide +kernel, rfl⟩
theorem eX0_about_13 : Dt cX0_about 13 (0) [60, 65, 70, 75, 80, 85, 90, 95] 108 := ⟨95, 7, #[47, 52, 57, 62, 67, 72, 77, 82], 47, by decide +kernel, by decide, by decide, by decide⟩
theorem eX0_about_60 : Dc cX0_about 60 (.aload_n 3) 1 61 := ⟨by decide +kernel, rfl⟩
theorem eX0_about_61 : Dc cX0_about 61 (.invokevirtual 360) 3 64 := ⟨by decide +kernel, rfl⟩
theorem eX0_about_64 : Dc cX0_about 64 (.ireturn) 1 65 := ⟨by decide +kernel, rfl⟩
theorem eX0_about_65 : Dc cX0_about 65 (.aload_n 3) 1 66 := ⟨by decide +kernel, rfl⟩
theorem eX0_about_66 : Dc cX0_about 66 (.invokevirtual 361) 3 69 := ⟨by decide +kernel, rfl⟩
theorem eX0_about_69 : Dc cX0_about 69 (.ireturn) 1 70 := ⟨by decide +kernel, rfl⟩
theorem eX0_about_70 : Dc cX0_about 70 (.aload_n 3) 1 71 := ⟨by decide +kernel, rfl⟩
theorem eX0_about_71 : Dc cX0_about 71 (.getfield 364) 3 74 := ⟨by decide +kernel, rfl⟩
theorem eX0_about_74 : Dc cX0_about 74 (.ireturn) 1 75 := ⟨by decide +kernel, rfl⟩
theorem eX0_about_75 : Dc cX0_about 75 (.aload_n 3) 1 76 := ⟨by decide +kernel, rfl⟩
theorem eX0_about_76 : Dc cX0_about 76 (.invokevirtual 365) 3 79 := ⟨by decide +kernel, rfl⟩
theorem eX0_about_79 : Dc cX0_about 79 (.ireturn) 1 80 := ⟨by decide +kernel, rfl⟩
theorem eX0_about_80 : Dc cX0_about 80 (.aload_n 3) 1 81 := ⟨by decide +kernel, rfl⟩
theorem eX0_about_81 : Dc cX0_about 81 (.invokevirtual 368) 3 84 := ⟨by decide +kernel, rfl⟩
theorem eX0_about_84 : Dc cX0_about 84 (.ireturn) 1 85 := ⟨by decide +kernel, rfl⟩
theorem eX0_about_85 : Dc cX0_about 85 (.aload_n 3) 1 86 := ⟨by decide +kernel, rfl⟩
theorem eX0_about_86 : Dc cX0_about 86 (.invokevirtual 371) 3 89 := ⟨by decide +kernel, rfl⟩
theorem eX0_about_89 : Dc cX0_about 89 (.ireturn) 1 90 := ⟨by decide +kernel, rfl⟩
theorem eX0_about_90 : Dc cX0_about 90 (.aload_n 3) 1 91 := ⟨by decide +kernel, rfl⟩
theorem eX0_about_91 : Dc cX0_about 91 (.invokevirtual 373) 3 94 := ⟨by decide +kernel, rfl⟩
theorem eX0_about_94 : Dc cX0_about 94 (.ireturn) 1 95 := ⟨by decide +kernel, rfl⟩
theorem eX0_about_95 : Dc cX0_about 95 (.aload_n 3) 1 96 := ⟨by decide +kernel, rfl⟩
theorem eX0_about_96 : Dc cX0_about 96 (.invokevirtual 374) 3 99 := ⟨by decide +kernel, rfl⟩
theorem eX0_about_99 : Db cX0_about 99 (fun o => .ifCond .eq o) 106 102 := ⟨7, by decide +kernel, by decide, rfl⟩
theorem eX0_about_102 : Dc cX0_about 102 (.iconst 1) 1 103 := ⟨by decide +kernel, rfl⟩
theorem eX0_about_103 : Db cX0_about 103 (fun o => .goto o) 107 106 := ⟨4, by decide +kernel, by decide, rfl⟩
theorem eX0_about_106 : Dc cX0_about 106 (.iconst 0) 1 107 := ⟨by decide +kernel, rfl⟩
theorem eX0_about_107 : Dc cX0_about 107 (.ireturn) 1 108 := ⟨by decide +kernel, rfl⟩
theorem eX0_about_108 : Dc cX0_about 108 (.iconst (-1)) 1 109 := ⟨by decide +kernel, rfl⟩
theorem eX0_about_109 : Dc cX0_about 109 (.ireturn) 1 110 := ⟨by decide +kernel, rfl⟩
theorem eX0_board_0 : Dc cX0_board 0 (.iload_n 1) 1 1 := ⟨by decide +kernel, rfl⟩
theorem eX0_board_1 : Dc cX0_board 1 (.invokestatic 56) 3 4 := ⟨by decide +kernel, rfl⟩
theorem eX0_board_4 : Db cX0_board 4 (fun o => .ifCond .eq o) 15 7 := ⟨11, by decide +kernel, by decide, rfl⟩
theorem eX0_board_7 : Dc cX0_board 7 (.aload_n 0) 1 8 := ⟨by decide +kernel, rfl⟩
theorem eX0_board_8 : Dc cX0_board 8 (.iload_n 2) 1 9 := ⟨by decide +kernel, rfl⟩
theorem eX0_board_9 : Dc cX0_board 9 (.invokevirtual 332) 3 12 := ⟨by decide +kernel, rfl⟩
theorem eX0_board_12 : Db cX0_board 12 (fun o => .ifnonnull o) 17 15 := ⟨5, by decide +kernel, by decide, rfl⟩
theorem eX0_board_15 : Dc cX0_board 15 (.iconst (-1)) 1 16 := ⟨by decide +kernel, rfl⟩
theorem eX0_board_16 : Dc cX0_board 16 (.ireturn) 1 17 := ⟨by decide +kernel, rfl⟩
theorem eX0_board_17 : Dc cX0_board 17 (.aload_n 0) 1 18 := ⟨by decide +kernel, rfl⟩
theorem eX0_board_18 : Dc cX0_board 18 (.getfield 154) 3 21 := ⟨by decide +kernel, rfl⟩
theorem eX0_board_21 : Dc cX0_board 21 (.invokevirtual 32) 3 24 := ⟨by decide +kernel, rfl⟩
theorem eX0_board_24 : Dc cX0_board 24 (.bipush 60) 2 26 := ⟨by decide +kernel, rfl⟩
theorem eX0_board_26 : Db cX0_board 26 (fun o => .if_icmp .ne o) 32 29 := ⟨6, by decide +kernel, by decide, rfl⟩
theorem eX0_board_29 : Dc cX0_board 29 (.bipush (-4)) 2 31 := ⟨by decide +kernel, rfl⟩
theorem eX0_board_31 : Dc cX0_board 31 (.ireturn) 1 32 := ⟨by decide +kernel, rfl⟩
theorem eX0_board_32 : Dc cX0_board 32 (.aload_n 0) 1 33 := ⟨by decide +kernel, rfl⟩
theorem eX0_board_33 : Dc cX0_board 33 (.getfield 154) 3 36 := ⟨by decide +kernel, rfl⟩
theorem eX0_board_36 : Dc cX0_board 36 (.new 377) 3 39 := ⟨by decide +kernel, rfl⟩
theorem eX0_board_39 : Dc cX0_board 39 (.dup) 1 40 := ⟨by decide +kernel, rfl⟩
theorem eX0_board_40 : Dc cX0_board 40 (.iload_n 1) 1 41 := ⟨by decide +kernel, rfl⟩
theorem eX0_board_41 : Dc cX0_board 41 (.iload_n 2) 1 42 := ⟨by decide +kernel, rfl⟩
theorem eX0_board_42 : Dc cX0_board 42 (.iload_n 3) 1 43 := ⟨by decide +kernel, rfl⟩
theorem eX0_board_43 : Dc cX0_board 43 (.invokespecial 379) 3 46 := ⟨by decide +kernel, rfl⟩
theorem eX0_board_46 : Dc cX0_board 46 (.invokevirtual 52) 3 49 := ⟨by decide +kernel, rfl⟩
theorem eX0_board_49 : Dc cX0_board 49 (.pop) 1 50 := ⟨by decide +kernel, rfl⟩
theorem eX0_board_50 : Dc cX0_board 50 (.aload_n 0) 1 51 := ⟨by decide +kernel, rfl⟩
theorem eX0_board_51 : Dc cX0_board 51 (.getfield 154) 3 54 := ⟨by decide +kernel, rfl⟩
theorem eX0_board_54 : Dc cX0_board 54 (.invokevirtual 32) 3 57 := ⟨by decide +kernel, rfl⟩
theorem eX0_board_57 : Dc cX0_board 57 (.ireturn) 1 58 := ⟨by decide +kernel, rfl⟩
theorem eX0_doubled_0 : Dc cX0_doubled 0 (.iconst 0) 1 1 := ⟨by decide +kernel, rfl⟩
theorem eX0_doubled_1 : Dc cX0_doubled 1 (.istore_n 1) 1 2 := ⟨by decide +kernel, rfl⟩
theorem eX0_doubled_2 : Dc cX0_doubled 2 (.iconst 0) 1 3 := ⟨by decide +kernel, rfl⟩
theorem eX0_doubled_3 : Dc cX0_doubled 3 (.istore_n 2) 1 4 := ⟨by decide +kernel, rfl⟩
theorem eX0_doubled_4 : Dc cX0_doubled 4 (.iload_n 2) 1 5 := ⟨by decide +kernel, rfl⟩
theorem eX0_doubled_5 : Dc cX0_doubled 5 (.aload_n 0) 1 6 := ⟨by decide +kernel, rfl⟩
theorem eX0_doubled_6 : Dc cX0_doubled 6 (.getfield 154) 3 9 := ⟨by decide +kernel, rfl⟩
theorem eX0_doubled_9 : Dc cX0_doubled 9 (.invokevirtual 32) 3 12 := ⟨by decide +kernel, rfl⟩
theorem eX0_doubled_12 : Db cX0_doubled 12 (fun o => .if_icmp .ge o) 123 15 := ⟨111, by decide +kernel, by decide, rfl⟩
theorem eX0_doubled_15 : Dc cX0_doubled 15 (.aload_n 0) 1 16 := ⟨by decide +kernel, rfl⟩
theorem eX0_doubled_16 : Dc cX0_doubled 16 (.getfield 154) 3 19 := ⟨by decide +kernel, rfl⟩
theorem eX0_doubled_19 : Dc cX0_doubled 19 (.iload_n 2) 1 20 := ⟨by decide +kernel, rfl⟩
theorem eX0_doubled_20 : Dc cX0_doubled 20 (.invokevirtual 38) 3 23 := ⟨by decide +kernel, rfl⟩
theorem eX0_doubled_23 : Dc cX0_doubled 23 (.checkcast 377) 3 26 := ⟨by decide +kernel, rfl⟩
theorem eX0_doubled_26 : Dc cX0_doubled 26 (.astore_n 3) 1 27 := ⟨by decide +kernel, rfl⟩
theorem eX0_doubled_27 : Dc cX0_doubled 27 (.iconst 0) 1 28 := ⟨by decide +kernel, rfl⟩
theorem eX0_doubled_28 : Dc cX0_doubled 28 (.istore 4) 2 30 := ⟨by decide +kernel, rfl⟩
theorem eX0_doubled_30 : Dc cX0_doubled 30 (.iload 4) 2 32 := ⟨by decide +kernel, rfl⟩
theorem eX0_doubled_32 : Dc cX0_doubled 32 (.iload_n 2) 1 33 := ⟨by decide +kernel, rfl⟩
theorem eX0_doubled_33 : Db cX0_doubled 33 (fun o => .if_icmp .ge o) 117 36 := ⟨84, by decide +kernel, by decide, rfl⟩
theorem eX0_doubled_36 : Dc cX0_doubled 36 (.aload_n 0) 1 37 := ⟨by decide +kernel, rfl⟩
theorem eX0_doubled_37 : Dc cX0_doubled 37 (.getfield 154) 3 40 := ⟨by decide +kernel, rfl⟩
theorem eX0_doubled_40 : Dc cX0_doubled 40 (.iload 4) 2 42 := ⟨by decide +kernel, rfl⟩
theorem eX0_doubled_42 : Dc cX0_doubled 42 (.invokevirtual 38) 3 45 := ⟨by decide +kernel, rfl⟩
theorem eX0_doubled_45 : Dc cX0_doubled 45 (.checkcast 377) 3 48 := ⟨by decide +kernel, rfl⟩
theorem eX0_doubled_48 : Dc cX0_doubled 48 (.getfield 382) 3 51 := ⟨by decide +kernel, rfl⟩
theorem eX0_doubled_51 : Dc cX0_doubled 51 (.aload_n 3) 1 52 := ⟨by decide +kernel, rfl⟩
theorem eX0_doubled_52 : Dc cX0_doubled 52 (.getfield 382) 3 55 := ⟨by decide +kernel, rfl⟩
theorem eX0_doubled_55 : Db cX0_doubled 55 (fun o => .if_icmp .ne o) 111 58 := ⟨56, by decide +kernel, by decide, rfl⟩
theorem eX0_doubled_58 : Dc cX0_doubled 58 (.aload_n 0) 1 59 := ⟨by decide +kernel, rfl⟩
theorem eX0_doubled_59 : Dc cX0_doubled 59 (.getfield 154) 3 62 := ⟨by decide +kernel, rfl⟩
theorem eX0_doubled_62 : Dc cX0_doubled 62 (.iload 4) 2 64 := ⟨by decide +kernel, rfl⟩
theorem eX0_doubled_64 : Dc cX0_doubled 64 (.invokevirtual 38) 3 67 := ⟨by decide +kernel, rfl⟩
theorem eX0_doubled_67 : Dc cX0_doubled 67 (.checkcast 377) 3 70 := ⟨by decide +kernel, rfl⟩
theorem eX0_doubled_70 : Dc cX0_doubled 70 (.getfield 385) 3 73 := ⟨by decide +kernel, rfl⟩
theorem eX0_doubled_73 : Dc cX0_doubled 73 (.aload_n 3) 1 74 := ⟨by decide +kernel, rfl⟩
theorem eX0_doubled_74 : Dc cX0_doubled 74 (.getfield 385) 3 77 := ⟨by decide +kernel, rfl⟩
theorem eX0_doubled_77 : Db cX0_doubled 77 (fun o => .if_icmp .ne o) 111 80 := ⟨34, by decide +kernel, by decide, rfl⟩
theorem eX0_doubled_80 : Dc cX0_doubled 80 (.aload_n 0) 1 81 := ⟨by decide +kernel, rfl⟩
theorem eX0_doubled_81 : Dc cX0_doubled 81 (.getfield 154) 3 84 := ⟨by decide +kernel, rfl⟩
theorem eX0_doubled_84 : Dc cX0_doubled 84 (.iload 4) 2 86 := ⟨by decide +kernel, rfl⟩
theorem eX0_doubled_86 : Dc cX0_doubled 86 (.invokevirtual 38) 3 89 := ⟨by decide +kernel, rfl⟩
theorem eX0_doubled_89 : Dc cX0_doubled 89 (.checkcast 377) 3 92 := ⟨by decide +kernel, rfl⟩
theorem eX0_doubled_92 : Dc cX0_doubled 92 (.getfield 388) 3 95 := ⟨by decide +kernel, rfl⟩
theorem eX0_doubled_95 : Dc cX0_doubled 95 (.aload_n 3) 1 96 := ⟨by decide +kernel, rfl⟩
theorem eX0_doubled_96 : Dc cX0_doubled 96 (.getfield 388) 3 99 := ⟨by decide +kernel, rfl⟩
theorem eX0_doubled_99 : Db cX0_doubled 99 (fun o => .if_icmp .eq o) 111 102 := ⟨12, by decide +kernel, by decide, rfl⟩
theorem eX0_doubled_102 : Dc cX0_doubled 102 (.iload_n 1) 1 103 := ⟨by decide +kernel, rfl⟩
theorem eX0_doubled_103 : Dc cX0_doubled 103 (.iconst 1) 1 104 := ⟨by decide +kernel, rfl⟩
theorem eX0_doubled_104 : Dc cX0_doubled 104 (.aload_n 3) 1 105 := ⟨by decide +kernel, rfl⟩
theorem eX0_doubled_105 : Dc cX0_doubled 105 (.getfield 382) 3 108 := ⟨by decide +kernel, rfl⟩
theorem eX0_doubled_108 : Dc cX0_doubled 108 (.ishl) 1 109 := ⟨by decide +kernel, rfl⟩
theorem eX0_doubled_109 : Dc cX0_doubled 109 (.ior) 1 110 := ⟨by decide +kernel, rfl⟩
theorem eX0_doubled_110 : Dc cX0_doubled 110 (.istore_n 1) 1 111 := ⟨by decide +kernel, rfl⟩
theorem eX0_doubled_111 : Dc cX0_doubled 111 (.iinc 4 1) 3 114 := ⟨by decide +kernel, rfl⟩
theorem eX0_doubled_114 : Db cX0_doubled 114 (fun o => .goto o) 30 117 := ⟨-84, by decide +kernel, by decide, rfl⟩
theorem eX0_doubled_117 : Dc cX0_doubled 117 (.iinc 2 1) 3 120 := ⟨by decide +kernel, rfl⟩
theorem eX0_doubled_120 : Db cX0_doubled 120 (fun o => .goto o) 4 123 := ⟨-116, by decide +kernel, by decide, rfl⟩
theorem eX0_doubled_123 : Dc cX0_doubled 123 (.iload_n 1) 1 124 := ⟨by decide +kernel, rfl⟩
theorem eX0_doubled_124 : Dc cX0_doubled 124 (.ireturn) 1 125 := ⟨by decide +kernel, rfl⟩
theorem eX0_hand_0 : Dc cX0_hand 0 (.iload_n 1) 1 1 := ⟨by decide +kernel, rfl⟩
theorem eX0_hand_1 : Dc cX0_hand 1 (.iconst 1) 1 2 := ⟨by decide +kernel, rfl⟩
theorem eX0_hand_2 : Dc cX0_hand 2 (.bipush 30) 2 4 := ⟨by decide +kernel, rfl⟩
theorem eX0_hand_4 : Dc cX0_hand 4 (.invokestatic 3) 3 7 := ⟨by decide +kernel, rfl⟩
theorem eX0_hand_7 : Db cX0_hand 7 (fun o => .ifCond .eq o) 20 10 := ⟨13, by decide +kernel, by decide, rfl⟩
theorem eX0_hand_10 : Dc cX0_hand 10 (.iload_n 2) 1 11 := ⟨by decide +kernel, rfl⟩
theorem eX0_hand_11 : Dc cX0_hand 11 (.iconst 1) 1 12 := ⟨by decide +kernel, rfl⟩
theorem eX0_hand_12 : Dc cX0_hand 12 (.bipush 30) 2 14 := ⟨by decide +kernel, rfl⟩
theorem eX0_hand_14 : Dc cX0_hand 14 (.invokestatic 3) 3 17 := ⟨by decide +kernel, rfl⟩
theorem eX0_hand_17 : Db cX0_hand 17 (fun o => .ifCond .ne o) 23 20 := ⟨6, by decide +kernel, by decide, rfl⟩
theorem eX0_hand_20 : Dc cX0_hand 20 (.bipush (-2)) 2 22 := ⟨by decide +kernel, rfl⟩
theorem eX0_hand_22 : Dc cX0_hand 22 (.ireturn) 1 23 := ⟨by decide +kernel, rfl⟩
theorem eX0_hand_23 : Dc cX0_hand 23 (.aload_n 0) 1 24 := ⟨by decide +kernel, rfl⟩
theorem eX0_hand_24 : Dc cX0_hand 24 (.getfield 391) 3 27 := ⟨by decide +kernel, rfl⟩
theorem eX0_hand_27 : Dc cX0_hand 27 (.bipush 7) 2 29 := ⟨by decide +kernel, rfl⟩
theorem eX0_hand_29 : Db cX0_hand 29 (fun o => .if_icmp .ne o) 35 32 := ⟨6, by decide +kernel, by decide, rfl⟩
theorem eX0_hand_32 : Dc cX0_hand 32 (.bipush (-4)) 2 34 := ⟨by decide +kernel, rfl⟩
theorem eX0_hand_34 : Dc cX0_hand 34 (.ireturn) 1 35 := ⟨by decide +kernel, rfl⟩
theorem eX0_hand_35 : Dc cX0_hand 35 (.aload_n 0) 1 36 := ⟨by decide +kernel, rfl⟩
theorem eX0_hand_36 : Dc cX0_hand 36 (.getfield 157) 3 39 := ⟨by decide +kernel, rfl⟩
theorem eX0_hand_39 : Dc cX0_hand 39 (.aload_n 0) 1 40 := ⟨by decide +kernel, rfl⟩
theorem eX0_hand_40 : Dc cX0_hand 40 (.getfield 391) 3 43 := ⟨by decide +kernel, rfl⟩
theorem eX0_hand_43 : Dc cX0_hand 43 (.iload_n 1) 1 44 := ⟨by decide +kernel, rfl⟩
theorem eX0_hand_44 : Dc cX0_hand 44 (.iastore) 1 45 := ⟨by decide +kernel, rfl⟩
theorem eX0_hand_45 : Dc cX0_hand 45 (.aload_n 0) 1 46 := ⟨by decide +kernel, rfl⟩
theorem eX0_hand_46 : Dc cX0_hand 46 (.getfield 160) 3 49 := ⟨by decide +kernel, rfl⟩
theorem eX0_hand_49 : Dc cX0_hand 49 (.aload_n 0) 1 50 := ⟨by decide +kernel, rfl⟩
theorem eX0_hand_50 : Dc cX0_hand 50 (.dup) 1 51 := ⟨by decide +kernel, rfl⟩
theorem eX0_hand_51 : Dc cX0_hand 51 (.getfield 391) 3 54 := ⟨by decide +kernel, rfl⟩
theorem eX0_hand_54 : Dc cX0_hand 54 (.dup_x1) 1 55 := ⟨by decide +kernel, rfl⟩
theorem eX0_hand_55 : Dc cX0_hand 55 (.iconst 1) 1 56 := ⟨by decide +kernel, rfl⟩
theorem eX0_hand_56 : Dc cX0_hand 56 (.iadd) 1 57 := ⟨by decide +kernel, rfl⟩
theorem eX0_hand_57 : Dc cX0_hand 57 (.putfield 391) 3 60 := ⟨by decide +kernel, rfl⟩
theorem eX0_hand_60 : Dc cX0_hand 60 (.iload_n 2) 1 61 := ⟨by decide +kernel, rfl⟩
theorem eX0_hand_61 : Dc cX0_hand 61 (.iastore) 1 62 := ⟨by decide +kernel, rfl⟩
theorem eX0_hand_62 : Dc cX0_hand 62 (.aload_n 0) 1 63 := ⟨by decide +kernel, rfl⟩
theorem eX0_hand_63 : Dc cX0_hand 63 (.getfield 391) 3 66 := ⟨by decide +kernel, rfl⟩
theorem eX0_hand_66 : Dc cX0_hand 66 (.ireturn) 1 67 := ⟨by decide +kernel, rfl⟩
theorem eX0_midnight_0 : Dc cX0_midnight 0 (.iload_n 2) 1 1 := ⟨by decide +kernel, rfl⟩
theorem eX0_midnight_1 : Dc cX0_midnight 1 (.iconst (-1)) 1 2 := ⟨by decide +kernel, rfl⟩
theorem eX0_midnight_2 : Db cX0_midnight 2 (fun o => .if_icmp .ge o) 7 5 := ⟨5, by decide +kernel, by decide, rfl⟩
theorem eX0_midnight_5 : Dc cX0_midnight 5 (.iconst (-1)) 1 6 := ⟨by decide +kernel, rfl⟩
theorem eX0_midnight_6 : Dc cX0_midnight 6 (.ireturn) 1 7 := ⟨by decide +kernel, rfl⟩
theorem eX0_midnight_7 : Dc cX0_midnight 7 (.iload_n 1) 1 8 := ⟨by decide +kernel, rfl⟩
theorem eX0_midnight_8 : Dc cX0_midnight 8 (.iconst 1) 1 9 := ⟨by decide +kernel, rfl⟩
theorem eX0_midnight_9 : Dc cX0_midnight 9 (.sipush 999) 3 12 := ⟨by decide +kernel, rfl⟩
theorem eX0_midnight_12 : Dc cX0_midnight 12 (.invokestatic 3) 3 15 := ⟨by decide +kernel, rfl⟩
theorem eX0_midnight_15 : Db cX0_midnight 15 (fun o => .ifCond .ne o) 21 18 := ⟨6, by decide +kernel, by decide, rfl⟩
theorem eX0_midnight_18 : Dc cX0_midnight 18 (.bipush (-2)) 2 20 := ⟨by decide +kernel, rfl⟩
theorem eX0_midnight_20 : Dc cX0_midnight 20 (.ireturn) 1 21 := ⟨by decide +kernel, rfl⟩
theorem eX0_midnight_21 : Dc cX0_midnight 21 (.aload_n 0) 1 22 := ⟨by decide +kernel, rfl⟩
theorem eX0_midnight_22 : Dc cX0_midnight 22 (.iconst 0) 1 23 := ⟨by decide +kernel, rfl⟩
theorem eX0_midnight_23 : Dc cX0_midnight 23 (.putfield 394) 3 26 := ⟨by decide +kernel, rfl⟩
theorem eX0_midnight_26 : Dc cX0_midnight 26 (.aload_n 0) 1 27 := ⟨by decide +kernel, rfl⟩
theorem eX0_midnight_27 : Dc cX0_midnight 27 (.iconst 0) 1 28 := ⟨by decide +kernel, rfl⟩
theorem eX0_midnight_28 : Dc cX0_midnight 28 (.iconst 0) 1 29 := ⟨by decide +kernel, rfl⟩
theorem eX0_midnight_29 : Dc cX0_midnight 29 (.iconst 0) 1 30 := ⟨by decide +kernel, rfl⟩
theorem eX0_midnight_30 : Dc cX0_midnight 30 (.iconst 0) 1 31 := ⟨by decide +kernel, rfl⟩
theorem eX0_midnight_31 : Dc cX0_midnight 31 (.iload_n 1) 1 32 := ⟨by decide +kernel, rfl⟩
theorem eX0_midnight_32 : Dc cX0_midnight 32 (.invokevirtual 403) 3 35 := ⟨by decide +kernel, rfl⟩
theorem eX0_midnight_35 : Dc cX0_midnight 35 (.iload_n 2) 1 36 := ⟨by decide +kernel, rfl⟩
theorem eX0_midnight_36 : Dc cX0_midnight 36 (.iconst (-1)) 1 37 := ⟨by decide +kernel, rfl⟩
theorem eX0_midnight_37 : Db cX0_midnight 37 (fun o => .if_icmp .ne o) 47 40 := ⟨10, by decide +kernel, by decide, rfl⟩
theorem eX0_midnight_40 : Dc cX0_midnight 40 (.aload_n 0) 1 41 := ⟨by decide +kernel, rfl⟩
theorem eX0_midnight_41 : Dc cX0_midnight 41 (.getfield 394) 3 44 := ⟨by decide +kernel, rfl⟩
theorem eX0_midnight_44 : Db cX0_midnight 44 (fun o => .goto o) 65 47 := ⟨21, by decide +kernel, by decide, rfl⟩
theorem eX0_midnight_47 : Dc cX0_midnight 47 (.iload_n 2) 1 48 := ⟨by decide +kernel, rfl⟩
theorem eX0_midnight_48 : Dc cX0_midnight 48 (.aload_n 0) 1 49 := ⟨by decide +kernel, rfl⟩
theorem eX0_midnight_49 : Dc cX0_midnight 49 (.getfield 394) 3 52 := ⟨by decide +kernel, rfl⟩
theorem eX0_midnight_52 : Db cX0_midnight 52 (fun o => .if_icmp .ge o) 64 55 := ⟨12, by decide +kernel, by decide, rfl⟩
theorem eX0_midnight_55 : Dc cX0_midnight 55 (.aload_n 0) 1 56 := ⟨by decide +kernel, rfl⟩
theorem eX0_midnight_56 : Dc cX0_midnight 56 (.getfield 166) 3 59 := ⟨by decide +kernel, rfl⟩
theorem eX0_midnight_59 : Dc cX0_midnight 59 (.iload_n 2) 1 60 := ⟨by decide +kernel, rfl⟩
theorem eX0_midnight_60 : Dc cX0_midnight 60 (.iaload) 1 61 := ⟨by decide +kernel, rfl⟩
theorem eX0_midnight_61 : Db cX0_midnight 61 (fun o => .goto o) 65 64 := ⟨4, by decide +kernel, by decide, rfl⟩
theorem eX0_midnight_64 : Dc cX0_midnight 64 (.iconst (-1)) 1 65 := ⟨by decide +kernel, rfl⟩
theorem eX0_midnight_65 : Dc cX0_midnight 65 (.ireturn) 1 66 := ⟨by decide +kernel, rfl⟩
theorem eX0_goOn_0 : Dc cX0_goOn 0 (.iload_n 1) 1 1 := ⟨by decide +kernel, rfl⟩
theorem eX0_goOn_1 : Dc cX0_goOn 1 (.aload_n 0) 1 2 := ⟨by decide +kernel, rfl⟩
theorem eX0_goOn_2 : Dc cX0_goOn 2 (.getfield 394) 3 5 := ⟨by decide +kernel, rfl⟩
theorem eX0_goOn_5 : Db cX0_goOn 5 (fun o => .if_icmp .le o) 27 8 := ⟨22, by decide +kernel, by decide, rfl⟩
theorem eX0_goOn_8 : Dc cX0_goOn 8 (.aload_n 0) 1 9 := ⟨by decide +kernel, rfl⟩
theorem eX0_goOn_9 : Dc cX0_goOn 9 (.iload_n 1) 1 10 := ⟨by decide +kernel, rfl⟩
theorem eX0_goOn_10 : Dc cX0_goOn 10 (.putfield 394) 3 13 := ⟨by decide +kernel, rfl⟩
theorem eX0_goOn_13 : Dc cX0_goOn 13 (.aload_n 0) 1 14 := ⟨by decide +kernel, rfl⟩
theorem eX0_goOn_14 : Dc cX0_goOn 14 (.getfield 163) 3 17 := ⟨by decide +kernel, rfl⟩
theorem eX0_goOn_17 : Dc cX0_goOn 17 (.iconst 0) 1 18 := ⟨by decide +kernel, rfl⟩
theorem eX0_goOn_18 : Dc cX0_goOn 18 (.aload_n 0) 1 19 := ⟨by decide +kernel, rfl⟩
theorem eX0_goOn_19 : Dc cX0_goOn 19 (.getfield 166) 3 22 := ⟨by decide +kernel, rfl⟩
theorem eX0_goOn_22 : Dc cX0_goOn 22 (.iconst 0) 1 23 := ⟨by decide +kernel, rfl⟩
theorem eX0_goOn_23 : Dc cX0_goOn 23 (.iload_n 1) 1 24 := ⟨by decide +kernel, rfl⟩
theorem eX0_goOn_24 : Dc cX0_goOn 24 (.invokestatic 397) 3 27 := ⟨by decide +kernel, rfl⟩
theorem eX0_goOn_27 : Dc cX0_goOn 27 (.iconst 0) 1 28 := ⟨by decide +kernel, rfl⟩
theorem eX0_goOn_28 : Dc cX0_goOn 28 (.istore 6) 2 30 := ⟨by decide +kernel, rfl⟩
theorem eX0_goOn_30 : Dc cX0_goOn 30 (.iload 6) 2 32 := ⟨by decide +kernel, rfl⟩
theorem eX0_goOn_32 : Dc cX0_goOn 32 (.aload_n 0) 1 33 := ⟨by decide +kernel, rfl⟩
theorem eX0_goOn_33 : Dc cX0_goOn 33 (.getfield 391) 3 36 := ⟨by decide +kernel, rfl⟩
theorem eX0_goOn_36 : Db cX0_goOn 36 (fun o => .if_icmp .ge o) 123 39 := ⟨87, by decide +kernel, by decide, rfl⟩
theorem eX0_goOn_39 : Dc cX0_goOn 39 (.iload_n 2) 1 40 := ⟨by decide +kernel, rfl⟩
theorem eX0_goOn_40 : Dc cX0_goOn 40 (.iload 6) 2 42 := ⟨by decide +kernel, rfl⟩
theorem eX0_goOn_42 : Dc cX0_goOn 42 (.ishr) 1 43 := ⟨by decide +kernel, rfl⟩
theorem eX0_goOn_43 : Dc cX0_goOn 43 (.iconst 1) 1 44 := ⟨by decide +kernel, rfl⟩
theorem eX0_goOn_44 : Dc cX0_goOn 44 (.iand) 1 45 := ⟨by decide +kernel, rfl⟩
theorem eX0_goOn_45 : Dc cX0_goOn 45 (.iconst 1) 1 46 := ⟨by decide +kernel, rfl⟩
theorem eX0_goOn_46 : Db cX0_goOn 46 (fun o => .if_icmp .ne o) 52 49 := ⟨6, by decide +kernel, by decide, rfl⟩
theorem eX0_goOn_49 : Db cX0_goOn 49 (fun o => .goto o) 117 52 := ⟨68, by decide +kernel, by decide, rfl⟩
theorem eX0_goOn_52 : Dc cX0_goOn 52 (.iload_n 3) 1 53 := ⟨by decide +kernel, rfl⟩
theorem eX0_goOn_53 : Dc cX0_goOn 53 (.aload_n 0) 1 54 := ⟨by decide +kernel, rfl⟩
theorem eX0_goOn_54 : Dc cX0_goOn 54 (.getfield 157) 3 57 := ⟨by decide +kernel, rfl⟩
theorem eX0_goOn_57 : Dc cX0_goOn 57 (.iload 6) 2 59 := ⟨by decide +kernel, rfl⟩
theorem eX0_goOn_59 : Dc cX0_goOn 59 (.iaload) 1 60 := ⟨by decide +kernel, rfl⟩
theorem eX0_goOn_60 : Dc cX0_goOn 60 (.iadd) 1 61 := ⟨by decide +kernel, rfl⟩
theorem eX0_goOn_61 : Dc cX0_goOn 61 (.istore 7) 2 63 := ⟨by decide +kernel, rfl⟩
theorem eX0_goOn_63 : Dc cX0_goOn 63 (.iload 7) 2 65 := ⟨by decide +kernel, rfl⟩
theorem eX0_goOn_65 : Dc cX0_goOn 65 (.iload 4) 2 67 := ⟨by decide +kernel, rfl⟩
theorem eX0_goOn_67 : Dc cX0_goOn 67 (.invokestatic 241) 3 70 := ⟨by decide +kernel, rfl⟩
theorem eX0_goOn_70 : Dc cX0_goOn 70 (.aload_n 0) 1 71 := ⟨by decide +kernel, rfl⟩
theorem eX0_goOn_71 : Dc cX0_goOn 71 (.getfield 160) 3 74 := ⟨by decide +kernel, rfl⟩
theorem eX0_goOn_74 : Dc cX0_goOn 74 (.iload 6) 2 76 := ⟨by decide +kernel, rfl⟩
theorem eX0_goOn_76 : Dc cX0_goOn 76 (.iaload) 1 77 := ⟨by decide +kernel, rfl⟩
theorem eX0_goOn_77 : Dc cX0_goOn 77 (.iadd) 1 78 := ⟨by decide +kernel, rfl⟩
theorem eX0_goOn_78 : Dc cX0_goOn 78 (.istore 8) 2 80 := ⟨by decide +kernel, rfl⟩
theorem eX0_goOn_80 : Dc cX0_goOn 80 (.iload 8) 2 82 := ⟨by decide +kernel, rfl⟩
theorem eX0_goOn_82 : Dc cX0_goOn 82 (.iload 5) 2 84 := ⟨by decide +kernel, rfl⟩
theorem eX0_goOn_84 : Db cX0_goOn 84 (fun o => .if_icmp .le o) 90 87 := ⟨6, by decide +kernel, by decide, rfl⟩
theorem eX0_goOn_87 : Db cX0_goOn 87 (fun o => .goto o) 117 90 := ⟨30, by decide +kernel, by decide, rfl⟩
theorem eX0_goOn_90 : Dc cX0_goOn 90 (.aload_n 0) 1 91 := ⟨by decide +kernel, rfl⟩
theorem eX0_goOn_91 : Dc cX0_goOn 91 (.getfield 163) 3 94 := ⟨by decide +kernel, rfl⟩
theorem eX0_goOn_94 : Dc cX0_goOn 94 (.iload_n 1) 1 95 := ⟨by decide +kernel, rfl⟩
theorem eX0_goOn_95 : Dc cX0_goOn 95 (.iload 6) 2 97 := ⟨by decide +kernel, rfl⟩
theorem eX0_goOn_97 : Dc cX0_goOn 97 (.iastore) 1 98 := ⟨by decide +kernel, rfl⟩
theorem eX0_goOn_98 : Dc cX0_goOn 98 (.aload_n 0) 1 99 := ⟨by decide +kernel, rfl⟩
theorem eX0_goOn_99 : Dc cX0_goOn 99 (.iload_n 1) 1 100 := ⟨by decide +kernel, rfl⟩
theorem eX0_goOn_100 : Dc cX0_goOn 100 (.iconst 1) 1 101 := ⟨by decide +kernel, rfl⟩
theorem eX0_goOn_101 : Dc cX0_goOn 101 (.iadd) 1 102 := ⟨by decide +kernel, rfl⟩
theorem eX0_goOn_102 : Dc cX0_goOn 102 (.iload_n 2) 1 103 := ⟨by decide +kernel, rfl⟩
theorem eX0_goOn_103 : Dc cX0_goOn 103 (.iconst 1) 1 104 := ⟨by decide +kernel, rfl⟩
theorem eX0_goOn_104 : Dc cX0_goOn 104 (.iload 6) 2 106 := ⟨by decide +kernel, rfl⟩
theorem eX0_goOn_106 : Dc cX0_goOn 106 (.ishl) 1 107 := ⟨by decide +kernel, rfl⟩
theorem eX0_goOn_107 : Dc cX0_goOn 107 (.ior) 1 108 := ⟨by decide +kernel, rfl⟩
theorem eX0_goOn_108 : Dc cX0_goOn 108 (.iload 7) 2 110 := ⟨by decide +kernel, rfl⟩
theorem eX0_goOn_110 : Dc cX0_goOn 110 (.iload 8) 2 112 := ⟨by decide +kernel, rfl⟩
theorem eX0_goOn_112 : Dc cX0_goOn 112 (.iload 5) 2 114 := ⟨by decide +kernel, rfl⟩
theorem eX0_goOn_114 : Dc cX0_goOn 114 (.invokevirtual 403) 3 117 := ⟨by decide +kernel, rfl⟩
theorem eX0_goOn_117 : Dc cX0_goOn 117 (.iinc 6 1) 3 120 := ⟨by decide +kernel, rfl⟩
theorem eX0_goOn_120 : Db cX0_goOn 120 (fun o => .goto o) 30 123 := ⟨-90, by decide +kernel, by decide, rfl⟩
theorem eX0_goOn_123 : Dc cX0_goOn 123 (.return_) 1 124 := ⟨by decide +kernel, rfl⟩
theorem eX0_scrip_0 : Dc cX0_scrip 0 (.aload_n 0) 1 1 := ⟨by decide +kernel, rfl⟩
theorem eX0_scrip_1 : Dc cX0_scrip 1 (.iload_n 1) 1 2 := ⟨by decide +kernel, rfl⟩
theorem eX0_scrip_2 : Dc cX0_scrip 2 (.invokevirtual 244) 3 5 := ⟨by decide +kernel, rfl⟩
theorem eX0_scrip_5 : Dc cX0_scrip 5 (.astore 4) 2 7 := ⟨by decide +kernel, rfl⟩
theorem eX0_scrip_7 : Dc cX0_scrip 7 (.aload 4) 2 9 := ⟨by decide +kernel, rfl⟩
theorem eX0_scrip_9 : Db cX0_scrip 9 (fun o => .ifnull o) 19 12 := ⟨10, by decide +kernel, by decide, rfl⟩
theorem eX0_scrip_12 : Dc cX0_scrip 12 (.iload_n 2) 1 13 := ⟨by decide +kernel, rfl⟩
theorem eX0_scrip_13 : Dc cX0_scrip 13 (.invokestatic 56) 3 16 := ⟨by decide +kernel, rfl⟩
theorem eX0_scrip_16 : Db cX0_scrip 16 (fun o => .ifCond .ne o) 21 19 := ⟨5, by decide +kernel, by decide, rfl⟩
theorem eX0_scrip_19 : Dc cX0_scrip 19 (.iconst (-1)) 1 20 := ⟨by decide +kernel, rfl⟩
theorem eX0_scrip_20 : Dc cX0_scrip 20 (.ireturn) 1 21 := ⟨by decide +kernel, rfl⟩
theorem eX0_scrip_21 : Dc cX0_scrip 21 (.iload_n 3) 1 22 := ⟨by decide +kernel, rfl⟩
theorem eX0_scrip_22 : Dc cX0_scrip 22 (.iconst 1) 1 23 := ⟨by decide +kernel, rfl⟩
theorem eX0_scrip_23 : Dc cX0_scrip 23 (.bipush 99) 2 25 := ⟨by decide +kernel, rfl⟩
theorem eX0_scrip_25 : Dc cX0_scrip 25 (.invokestatic 3) 3 28 := ⟨by decide +kernel, rfl⟩
theorem eX0_scrip_28 : Db cX0_scrip 28 (fun o => .ifCond .ne o) 34 31 := ⟨6, by decide +kernel, by decide, rfl⟩
theorem eX0_scrip_31 : Dc cX0_scrip 31 (.bipush (-2)) 2 33 := ⟨by decide +kernel, rfl⟩
theorem eX0_scrip_33 : Dc cX0_scrip 33 (.ireturn) 1 34 := ⟨by decide +kernel, rfl⟩
theorem eX0_scrip_34 : Dc cX0_scrip 34 (.aload 4) 2 36 := ⟨by decide +kernel, rfl⟩
theorem eX0_scrip_36 : Dc cX0_scrip 36 (.getfield 407) 3 39 := ⟨by decide +kernel, rfl⟩
theorem eX0_scrip_39 : Db cX0_scrip 39 (fun o => .ifCond .ne o) 51 42 := ⟨12, by decide +kernel, by decide, rfl⟩
theorem eX0_scrip_42 : Dc cX0_scrip 42 (.iload_n 3) 1 43 := ⟨by decide +kernel, rfl⟩
theorem eX0_scrip_43 : Dc cX0_scrip 43 (.aload 4) 2 45 := ⟨by decide +kernel, rfl⟩
theorem eX0_scrip_45 : Dc cX0_scrip 45 (.invokevirtual 410) 3 48 := ⟨by decide +kernel, rfl⟩
theorem eX0_scrip_48 : Db cX0_scrip 48 (fun o => .if_icmp .le o) 54 51 := ⟨6, by decide +kernel, by decide, rfl⟩
theorem eX0_scrip_51 : Dc cX0_scrip 51 (.bipush (-3)) 2 53 := ⟨by decide +kernel, rfl⟩
theorem eX0_scrip_53 : Dc cX0_scrip 53 (.ireturn) 1 54 := ⟨by decide +kernel, rfl⟩
theorem eX0_scrip_54 : Dc cX0_scrip 54 (.aload 4) 2 56 := ⟨by decide +kernel, rfl⟩
theorem eX0_scrip_56 : Dc cX0_scrip 56 (.getfield 412) 3 59 := ⟨by decide +kernel, rfl⟩
theorem eX0_scrip_59 : Dc cX0_scrip 59 (.iload_n 2) 1 60 := ⟨by decide +kernel, rfl⟩
theorem eX0_scrip_60 : Dc cX0_scrip 60 (.dup2) 1 61 := ⟨by decide +kernel, rfl⟩
theorem eX0_scrip_61 : Dc cX0_scrip 61 (.iaload) 1 62 := ⟨by decide +kernel, rfl⟩
theorem eX0_scrip_62 : Dc cX0_scrip 62 (.iload_n 3) 1 63 := ⟨by decide +kernel, rfl⟩
theorem eX0_scrip_63 : Dc cX0_scrip 63 (.iadd) 1 64 := ⟨by decide +kernel, rfl⟩
theorem eX0_scrip_64 : Dc cX0_scrip 64 (.iastore) 1 65 := ⟨by decide +kernel, rfl⟩
theorem eX0_scrip_65 : Dc cX0_scrip 65 (.aload 4) 2 67 := ⟨by decide +kernel, rfl⟩
theorem eX0_scrip_67 : Dc cX0_scrip 67 (.getfield 412) 3 70 := ⟨by decide +kernel, rfl⟩
theorem eX0_scrip_70 : Dc cX0_scrip 70 (.iload_n 2) 1 71 := ⟨by decide +kernel, rfl⟩
theorem eX0_scrip_71 : Dc cX0_scrip 71 (.iaload) 1 72 := ⟨by decide +kernel, rfl⟩
theorem eX0_scrip_72 : Dc cX0_scrip 72 (.ireturn) 1 73 := ⟨by decide +kernel, rfl⟩
theorem eX0_held_0 : Dc cX0_held 0 (.aload_n 0) 1 1 := ⟨by decide +kernel, rfl⟩
theorem eX0_held_1 : Dc cX0_held 1 (.iload_n 1) 1 2 := ⟨by decide +kernel, rfl⟩
theorem eX0_held_2 : Dc cX0_held 2 (.invokevirtual 244) 3 5 := ⟨by decide +kernel, rfl⟩
theorem eX0_held_5 : Dc cX0_held 5 (.astore_n 3) 1 6 := ⟨by decide +kernel, rfl⟩
theorem eX0_held_6 : Dc cX0_held 6 (.aload_n 3) 1 7 := ⟨by decide +kernel, rfl⟩
theorem eX0_held_7 : Db cX0_held 7 (fun o => .ifnull o) 20 10 := ⟨13, by decide +kernel, by decide, rfl⟩
theorem eX0_held_10 : Dc cX0_held 10 (.iload_n 2) 1 11 := ⟨by decide +kernel, rfl⟩
theorem eX0_held_11 : Dc cX0_held 11 (.iconst 0) 1 12 := ⟨by decide +kernel, rfl⟩
theorem eX0_held_12 : Dc cX0_held 12 (.bipush 8) 2 14 := ⟨by decide +kernel, rfl⟩
theorem eX0_held_14 : Dc cX0_held 14 (.invokestatic 3) 3 17 := ⟨by decide +kernel, rfl⟩
theorem eX0_held_17 : Db cX0_held 17 (fun o => .ifCond .ne o) 22 20 := ⟨5, by decide +kernel, by decide, rfl⟩
theorem eX0_held_20 : Dc cX0_held 20 (.iconst (-1)) 1 21 := ⟨by decide +kernel, rfl⟩
theorem eX0_held_21 : Dc cX0_held 21 (.ireturn) 1 22 := ⟨by decide +kernel, rfl⟩
theorem eX0_held_22 : Dc cX0_held 22 (.iload_n 2) 1 23 := ⟨by decide +kernel, rfl⟩
theorem eX0_held_23 : Dc cX0_held 23 (.bipush 8) 2 25 := ⟨by decide +kernel, rfl⟩
theorem eX0_held_25 : Db cX0_held 25 (fun o => .if_icmp .ne o) 35 28 := ⟨10, by decide +kernel, by decide, rfl⟩
theorem eX0_held_28 : Dc cX0_held 28 (.aload_n 3) 1 29 := ⟨by decide +kernel, rfl⟩
theorem eX0_held_29 : Dc cX0_held 29 (.invokevirtual 410) 3 32 := ⟨by decide +kernel, rfl⟩
theorem eX0_held_32 : Db cX0_held 32 (fun o => .goto o) 41 35 := ⟨9, by decide +kernel, by decide, rfl⟩
theorem eX0_held_35 : Dc cX0_held 35 (.aload_n 3) 1 36 := ⟨by decide +kernel, rfl⟩
theorem eX0_held_36 : Dc cX0_held 36 (.getfield 412) 3 39 := ⟨by decide +kernel, rfl⟩
theorem eX0_held_39 : Dc cX0_held 39 (.iload_n 2) 1 40 := ⟨by decide +kernel, rfl⟩
theorem eX0_held_40 : Dc cX0_held 40 (.iaload) 1 41 := ⟨by decide +kernel, rfl⟩
theorem eX0_held_41 : Dc cX0_held 41 (.ireturn) 1 42 := ⟨by decide +kernel, rfl⟩
theorem eX0_purse_0 : Dc cX0_purse 0 (.iload_n 1) 1 1 := ⟨by decide +kernel, rfl⟩
theorem eX0_purse_1 : Db cX0_purse 1 (fun o => .ifCond .ne o) 23 4 := ⟨22, by decide +kernel, by decide, rfl⟩
theorem eX0_purse_4 : Dc cX0_purse 4 (.iload_n 2) 1 5 := ⟨by decide +kernel, rfl⟩
theorem eX0_purse_5 : Dc cX0_purse 5 (.invokestatic 56) 3 8 := ⟨by decide +kernel, rfl⟩
theorem eX0_purse_8 : Db cX0_purse 8 (fun o => .ifCond .eq o) 21 11 := ⟨13, by decide +kernel, by decide, rfl⟩
theorem eX0_purse_11 : Dc cX0_purse 11 (.aload_n 0) 1 12 := ⟨by decide +kernel, rfl⟩
theorem eX0_purse_12 : Dc cX0_purse 12 (.getfield 60) 3 15 := ⟨by decide +kernel, rfl⟩
theorem eX0_purse_15 : Dc cX0_purse 15 (.iload_n 2) 1 16 := ⟨by decide +kernel, rfl⟩
theorem eX0_purse_16 : Dc cX0_purse 16 (.laload) 1 17 := ⟨by decide +kernel, rfl⟩
theorem eX0_purse_17 : Dc cX0_purse 17 (.l2i) 1 18 := ⟨by decide +kernel, rfl⟩
theorem eX0_purse_18 : Db cX0_purse 18 (fun o => .goto o) 22 21 := ⟨4, by decide +kernel, by decide, rfl⟩
theorem eX0_purse_21 : Dc cX0_purse 21 (.iconst (-1)) 1 22 := ⟨by decide +kernel, rfl⟩
theorem eX0_purse_22 : Dc cX0_purse 22 (.ireturn) 1 23 := ⟨by decide +kernel, rfl⟩
theorem eX0_purse_23 : Dc cX0_purse 23 (.iload_n 1) 1 24 := ⟨by decide +kernel, rfl⟩
theorem eX0_purse_24 : Dc cX0_purse 24 (.iconst 1) 1 25 := ⟨by decide +kernel, rfl⟩
theorem eX0_purse_25 : Db cX0_purse 25 (fun o => .if_icmp .ne o) 48 28 := ⟨23, by decide +kernel, by decide, rfl⟩
theorem eX0_purse_28 : Dc cX0_purse 28 (.aload_n 0) 1 29 := ⟨by decide +kernel, rfl⟩
theorem eX0_purse_29 : Dc cX0_purse 29 (.iload_n 2) 1 30 := ⟨by decide +kernel, rfl⟩
theorem eX0_purse_30 : Dc cX0_purse 30 (.invokevirtual 244) 3 33 := ⟨by decide +kernel, rfl⟩
theorem eX0_purse_33 : Db cX0_purse 33 (fun o => .ifnull o) 48 36 := ⟨15, by decide +kernel, by decide, rfl⟩
theorem eX0_purse_36 : Dc cX0_purse 36 (.aload_n 0) 1 37 := ⟨by decide +kernel, rfl⟩
theorem eX0_purse_37 : Dc cX0_purse 37 (.iload_n 2) 1 38 := ⟨by decide +kernel, rfl⟩
theorem eX0_purse_38 : Dc cX0_purse 38 (.invokevirtual 244) 3 41 := ⟨by decide +kernel, rfl⟩
theorem eX0_purse_41 : Dc cX0_purse 41 (.getfield 415) 3 44 := ⟨by decide +kernel, rfl⟩
theorem eX0_purse_44 : Dc cX0_purse 44 (.l2i) 1 45 := ⟨by decide +kernel, rfl⟩
theorem eX0_purse_45 : Db cX0_purse 45 (fun o => .goto o) 49 48 := ⟨4, by decide +kernel, by decide, rfl⟩
theorem eX0_purse_48 : Dc cX0_purse 48 (.iconst (-1)) 1 49 := ⟨by decide +kernel, rfl⟩
theorem eX0_purse_49 : Dc cX0_purse 49 (.ireturn) 1 50 := ⟨by decide +kernel, rfl⟩
theorem eX0_ask_0 : Dc cX0_ask 0 (.aload_n 0) 1 1 := ⟨by decide +kernel, rfl⟩
theorem eX0_ask_1 : Dc cX0_ask 1 (.iload_n 1) 1 2 := ⟨by decide +kernel, rfl⟩
theorem eX0_ask_2 : Dc cX0_ask 2 (.invokevirtual 244) 3 5 := ⟨by decide +kernel, rfl⟩
theorem eX0_ask_5 : Dc cX0_ask 5 (.astore 6) 2 7 := ⟨by decide +kernel, rfl⟩
theorem eX0_ask_7 : Dc cX0_ask 7 (.aload 6) 2 9 := ⟨by decide +kernel, rfl⟩
theorem eX0_ask_9 : Db cX0_ask 9 (fun o => .ifnull o) 19 12 := ⟨10, by decide +kernel, by decide, rfl⟩
theorem eX0_ask_12 : Dc cX0_ask 12 (.iload_n 2) 1 13 := ⟨by decide +kernel, rfl⟩
theorem eX0_ask_13 : Dc cX0_ask 13 (.invokestatic 56) 3 16 := ⟨by decide +kernel, rfl⟩
theorem eX0_ask_16 : Db cX0_ask 16 (fun o => .ifCond .ne o) 21 19 := ⟨5, by decide +kernel, by decide, rfl⟩
theorem eX0_ask_19 : Dc cX0_ask 19 (.iconst (-1)) 1 20 := ⟨by decide +kernel, rfl⟩
theorem eX0_ask_20 : Dc cX0_ask 20 (.ireturn) 1 21 := ⟨by decide +kernel, rfl⟩
theorem eX0_ask_21 : Dc cX0_ask 21 (.iload_n 3) 1 22 := ⟨by decide +kernel, rfl⟩
theorem eX0_ask_22 : Dc cX0_ask 22 (.iconst 1) 1 23 := ⟨by decide +kernel, rfl⟩
theorem eX0_ask_23 : Dc cX0_ask 23 (.bipush 99) 2 25 := ⟨by decide +kernel, rfl⟩
theorem eX0_ask_25 : Dc cX0_ask 25 (.invokestatic 3) 3 28 := ⟨by decide +kernel, rfl⟩
theorem eX0_ask_28 : Db cX0_ask 28 (fun o => .ifCond .eq o) 43 31 := ⟨15, by decide +kernel, by decide, rfl⟩
theorem eX0_ask_31 : Dc cX0_ask 31 (.iload 4) 2 33 := ⟨by decide +kernel, rfl⟩
theorem eX0_ask_33 : Dc cX0_ask 33 (.iconst 1) 1 34 := ⟨by decide +kernel, rfl⟩
theorem eX0_ask_34 : Dc cX0_ask 34 (.sipush 999) 3 37 := ⟨by decide +kernel, rfl⟩
theorem eX0_ask_37 : Dc cX0_ask 37 (.invokestatic 3) 3 40 := ⟨by decide +kernel, rfl⟩
theorem eX0_ask_40 : Db cX0_ask 40 (fun o => .ifCond .ne o) 46 43 := ⟨6, by decide +kernel, by decide, rfl⟩
theorem eX0_ask_43 : Dc cX0_ask 43 (.bipush (-2)) 2 45 := ⟨by decide +kernel, rfl⟩
theorem eX0_ask_45 : Dc cX0_ask 45 (.ireturn) 1 46 := ⟨by decide +kernel, rfl⟩
theorem eX0_ask_46 : Dc cX0_ask 46 (.aload_n 0) 1 47 := ⟨by decide +kernel, rfl⟩
theorem eX0_ask_47 : Dc cX0_ask 47 (.getfield 169) 3 50 := ⟨by decide +kernel, rfl⟩
theorem eX0_ask_50 : Dc cX0_ask 50 (.invokevirtual 32) 3 53 := ⟨by decide +kernel, rfl⟩
theorem eX0_ask_53 : Dc cX0_ask 53 (.bipush 40) 2 55 := ⟨by decide +kernel, rfl⟩
theorem eX0_ask_55 : Db cX0_ask 55 (fun o => .if_icmp .ne o) 61 58 := ⟨6, by decide +kernel, by decide, rfl⟩
theorem eX0_ask_58 : Dc cX0_ask 58 (.bipush (-4)) 2 60 := ⟨by decide +kernel, rfl⟩
theorem eX0_ask_60 : Dc cX0_ask 60 (.ireturn) 1 61 := ⟨by decide +kernel, rfl⟩
theorem eX0_ask_61 : Dc cX0_ask 61 (.aload_n 0) 1 62 := ⟨by decide +kernel, rfl⟩
theorem eX0_ask_62 : Dc cX0_ask 62 (.getfield 169) 3 65 := ⟨by decide +kernel, rfl⟩
theorem eX0_ask_65 : Dc cX0_ask 65 (.new 417) 3 68 := ⟨by decide +kernel, rfl⟩
theorem eX0_ask_68 : Dc cX0_ask 68 (.dup) 1 69 := ⟨by decide +kernel, rfl⟩
theorem eX0_ask_69 : Dc cX0_ask 69 (.aload 6) 2 71 := ⟨by decide +kernel, rfl⟩
theorem eX0_ask_71 : Dc cX0_ask 71 (.iload_n 2) 1 72 := ⟨by decide +kernel, rfl⟩
theorem eX0_ask_72 : Dc cX0_ask 72 (.iload_n 3) 1 73 := ⟨by decide +kernel, rfl⟩
theorem eX0_ask_73 : Dc cX0_ask 73 (.iload 4) 2 75 := ⟨by decide +kernel, rfl⟩
theorem eX0_ask_75 : Dc cX0_ask 75 (.iload 5) 2 77 := ⟨by decide +kernel, rfl⟩
theorem eX0_ask_77 : Dc cX0_ask 77 (.invokespecial 419) 3 80 := ⟨by decide +kernel, rfl⟩
theorem eX0_ask_80 : Dc cX0_ask 80 (.invokevirtual 52) 3 83 := ⟨by decide +kernel, rfl⟩
theorem eX0_ask_83 : Dc cX0_ask 83 (.pop) 1 84 := ⟨by decide +kernel, rfl⟩
theorem eX0_ask_84 : Dc cX0_ask 84 (.aload_n 0) 1 85 := ⟨by decide +kernel, rfl⟩
theorem eX0_ask_85 : Dc cX0_ask 85 (.getfield 169) 3 88 := ⟨by decide +kernel, rfl⟩
theorem eX0_ask_88 : Dc cX0_ask 88 (.invokevirtual 32) 3 91 := ⟨by decide +kernel, rfl⟩
theorem eX0_ask_91 : Dc cX0_ask 91 (.ireturn) 1 92 := ⟨by decide +kernel, rfl⟩
theorem eX0_price_0 : Dc cX0_price 0 (.aload_n 0) 1 1 := ⟨by decide +kernel, rfl⟩
theorem eX0_price_1 : Dc cX0_price 1 (.iload_n 1) 1 2 := ⟨by decide +kernel, rfl⟩
theorem eX0_price_2 : Dc cX0_price 2 (.invokevirtual 244) 3 5 := ⟨by decide +kernel, rfl⟩
theorem eX0_price_5 : Dc cX0_price 5 (.astore_n 2) 1 6 := ⟨by decide +kernel, rfl⟩
theorem eX0_price_6 : Dc cX0_price 6 (.aload_n 2) 1 7 := ⟨by decide +kernel, rfl⟩
theorem eX0_price_7 : Db cX0_price 7 (fun o => .ifnonnull o) 12 10 := ⟨5, by decide +kernel, by decide, rfl⟩
theorem eX0_price_10 : Dc cX0_price 10 (.iconst (-1)) 1 11 := ⟨by decide +kernel, rfl⟩
theorem eX0_price_11 : Dc cX0_price 11 (.ireturn) 1 12 := ⟨by decide +kernel, rfl⟩
theorem eX0_price_12 : Dc cX0_price 12 (.iconst 0) 1 13 := ⟨by decide +kernel, rfl⟩
theorem eX0_price_13 : Dc cX0_price 13 (.istore_n 3) 1 14 := ⟨by decide +kernel, rfl⟩
theorem eX0_price_14 : Dc cX0_price 14 (.aload_n 0) 1 15 := ⟨by decide +kernel, rfl⟩
theorem eX0_price_15 : Dc cX0_price 15 (.aload_n 2) 1 16 := ⟨by decide +kernel, rfl⟩
theorem eX0_price_16 : Dc cX0_price 16 (.iconst 0) 1 17 := ⟨by decide +kernel, rfl⟩
theorem eX0_price_17 : Dc cX0_price 17 (.invokevirtual 447) 3 20 := ⟨by decide +kernel, rfl⟩
theorem eX0_price_20 : Dc cX0_price 20 (.astore 4) 2 22 := ⟨by decide +kernel, rfl⟩
theorem eX0_price_22 : Dc cX0_price 22 (.aload_n 0) 1 23 := ⟨by decide +kernel, rfl⟩
theorem eX0_price_23 : Dc cX0_price 23 (.aload_n 2) 1 24 := ⟨by decide +kernel, rfl⟩
theorem eX0_price_24 : Dc cX0_price 24 (.iconst 1) 1 25 := ⟨by decide +kernel, rfl⟩
theorem eX0_price_25 : Dc cX0_price 25 (.invokevirtual 447) 3 28 := ⟨by decide +kernel, rfl⟩
theorem eX0_price_28 : Dc cX0_price 28 (.astore 5) 2 30 := ⟨by decide +kernel, rfl⟩
theorem eX0_price_30 : Dc cX0_price 30 (.aload 4) 2 32 := ⟨by decide +kernel, rfl⟩
theorem eX0_price_32 : Db cX0_price 32 (fun o => .ifnull o) 83 35 := ⟨51, by decide +kernel, by decide, rfl⟩
theorem eX0_price_35 : Dc cX0_price 35 (.aload 5) 2 37 := ⟨by decide +kernel, rfl⟩
theorem eX0_price_37 : Db cX0_price 37 (fun o => .ifnull o) 83 40 := ⟨46, by decide +kernel, by decide, rfl⟩
theorem eX0_price_40 : Dc cX0_price 40 (.aload 5) 2 42 := ⟨by decide +kernel, rfl⟩
theorem eX0_price_42 : Dc cX0_price 42 (.getfield 437) 3 45 := ⟨by decide +kernel, rfl⟩
theorem eX0_price_45 : Dc cX0_price 45 (.aload 4) 2 47 := ⟨by decide +kernel, rfl⟩
theorem eX0_price_47 : Dc cX0_price 47 (.getfield 437) 3 50 := ⟨by decide +kernel, rfl⟩
theorem eX0_price_50 : Db cX0_price 50 (fun o => .if_icmp .lt o) 83 53 := ⟨33, by decide +kernel, by decide, rfl⟩
theorem eX0_price_53 : Dc cX0_price 53 (.iload_n 3) 1 54 := ⟨by decide +kernel, rfl⟩
theorem eX0_price_54 : Dc cX0_price 54 (.aload_n 0) 1 55 := ⟨by decide +kernel, rfl⟩
theorem eX0_price_55 : Dc cX0_price 55 (.aload 4) 2 57 := ⟨by decide +kernel, rfl⟩
theorem eX0_price_57 : Dc cX0_price 57 (.aload 5) 2 59 := ⟨by decide +kernel, rfl⟩
theorem eX0_price_59 : Dc cX0_price 59 (.invokevirtual 451) 3 62 := ⟨by decide +kernel, rfl⟩
theorem eX0_price_62 : Dc cX0_price 62 (.iadd) 1 63 := ⟨by decide +kernel, rfl⟩
theorem eX0_price_63 : Dc cX0_price 63 (.istore_n 3) 1 64 := ⟨by decide +kernel, rfl⟩
theorem eX0_price_64 : Dc cX0_price 64 (.aload_n 0) 1 65 := ⟨by decide +kernel, rfl⟩
theorem eX0_price_65 : Dc cX0_price 65 (.aload_n 2) 1 66 := ⟨by decide +kernel, rfl⟩
theorem eX0_price_66 : Dc cX0_price 66 (.iconst 0) 1 67 := ⟨by decide +kernel, rfl⟩
theorem eX0_price_67 : Dc cX0_price 67 (.invokevirtual 447) 3 70 := ⟨by decide +kernel, rfl⟩
theorem eX0_price_70 : Dc cX0_price 70 (.astore 4) 2 72 := ⟨by decide +kernel, rfl⟩
theorem eX0_price_72 : Dc cX0_price 72 (.aload_n 0) 1 73 := ⟨by decide +kernel, rfl⟩
theorem eX0_price_73 : Dc cX0_price 73 (.aload_n 2) 1 74 := ⟨by decide +kernel, rfl⟩
theorem eX0_price_74 : Dc cX0_price 74 (.iconst 1) 1 75 := ⟨by decide +kernel, rfl⟩
theorem eX0_price_75 : Dc cX0_price 75 (.invokevirtual 447) 3 78 := ⟨by decide +kernel, rfl⟩
theorem eX0_price_78 : Dc cX0_price 78 (.astore 5) 2 80 := ⟨by decide +kernel, rfl⟩
theorem eX0_price_80 : Db cX0_price 80 (fun o => .goto o) 30 83 := ⟨-50, by decide +kernel, by decide, rfl⟩
theorem eX0_price_83 : Dc cX0_price 83 (.aload_n 0) 1 84 := ⟨by decide +kernel, rfl⟩
theorem eX0_price_84 : Dc cX0_price 84 (.getfield 169) 3 87 := ⟨by decide +kernel, rfl⟩
theorem eX0_price_87 : Dc cX0_price 87 (.invokevirtual 32) 3 90 := ⟨by decide +kernel, rfl⟩
theorem eX0_price_90 : Dc cX0_price 90 (.iconst 1) 1 91 := ⟨by decide +kernel, rfl⟩
theorem eX0_price_91 : Dc cX0_price 91 (.isub) 1 92 := ⟨by decide +kernel, rfl⟩
theorem eX0_price_92 : Dc cX0_price 92 (.istore 6) 2 94 := ⟨by decide +kernel, rfl⟩
theorem eX0_price_94 : Dc cX0_price 94 (.iload 6) 2 96 := ⟨by decide +kernel, rfl⟩
theorem eX0_price_96 : Db cX0_price 96 (fun o => .ifCond .lt o) 134 99 := ⟨38, by decide +kernel, by decide, rfl⟩
theorem eX0_price_99 : Dc cX0_price 99 (.aload_n 0) 1 100 := ⟨by decide +kernel, rfl⟩
theorem eX0_price_100 : Dc cX0_price 100 (.getfield 169) 3 103 := ⟨by decide +kernel, rfl⟩
theorem eX0_price_103 : Dc cX0_price 103 (.iload 6) 2 105 := ⟨by decide +kernel, rfl⟩
theorem eX0_price_105 : Dc cX0_price 105 (.invokevirtual 38) 3 108 := ⟨by decide +kernel, rfl⟩
theorem eX0_price_108 : Dc cX0_price 108 (.checkcast 417) 3 111 := ⟨by decide +kernel, rfl⟩
theorem eX0_price_111 : Dc cX0_price 111 (.getfield 422) 3 114 := ⟨by decide +kernel, rfl⟩
theorem eX0_price_114 : Dc cX0_price 114 (.aload_n 2) 1 115 := ⟨by decide +kernel, rfl⟩
theorem eX0_price_115 : Db cX0_price 115 (fun o => .if_acmp .ne o) 128 118 := ⟨13, by decide +kernel, by decide, rfl⟩
theorem eX0_price_118 : Dc cX0_price 118 (.aload_n 0) 1 119 := ⟨by decide +kernel, rfl⟩
theorem eX0_price_119 : Dc cX0_price 119 (.getfield 169) 3 122 := ⟨by decide +kernel, rfl⟩
theorem eX0_price_122 : Dc cX0_price 122 (.iload 6) 2 124 := ⟨by decide +kernel, rfl⟩
theorem eX0_price_124 : Dc cX0_price 124 (.invokevirtual 455) 3 127 := ⟨by decide +kernel, rfl⟩
theorem eX0_price_127 : Dc cX0_price 127 (.pop) 1 128 := ⟨by decide +kernel, rfl⟩
theorem eX0_price_128 : Dc cX0_price 128 (.iinc 6 (-1)) 3 131 := ⟨by decide +kernel, rfl⟩
theorem eX0_price_131 : Db cX0_price 131 (fun o => .goto o) 94 134 := ⟨-37, by decide +kernel, by decide, rfl⟩
theorem eX0_price_134 : Dc cX0_price 134 (.iload_n 3) 1 135 := ⟨by decide +kernel, rfl⟩
theorem eX0_price_135 : Dc cX0_price 135 (.ireturn) 1 136 := ⟨by decide +kernel, rfl⟩
theorem eX0_best_0 : Dc cX0_best 0 (.aconst_null) 1 1 := ⟨by decide +kernel, rfl⟩
theorem eX0_best_1 : Dc cX0_best 1 (.astore_n 3) 1 2 := ⟨by decide +kernel, rfl⟩
theorem eX0_best_2 : Dc cX0_best 2 (.iconst 0) 1 3 := ⟨by decide +kernel, rfl⟩
theorem eX0_best_3 : Dc cX0_best 3 (.istore 4) 2 5 := ⟨by decide +kernel, rfl⟩
theorem eX0_best_5 : Dc cX0_best 5 (.iload 4) 2 7 := ⟨by decide +kernel, rfl⟩
theorem eX0_best_7 : Dc cX0_best 7 (.aload_n 0) 1 8 := ⟨by decide +kernel, rfl⟩
theorem eX0_best_8 : Dc cX0_best 8 (.getfield 169) 3 11 := ⟨by decide +kernel, rfl⟩
theorem eX0_best_11 : Dc cX0_best 11 (.invokevirtual 32) 3 14 := ⟨by decide +kernel, rfl⟩
theorem eX0_best_14 : Db cX0_best 14 (fun o => .if_icmp .ge o) 71 17 := ⟨57, by decide +kernel, by decide, rfl⟩
theorem eX0_best_17 : Dc cX0_best 17 (.aload_n 0) 1 18 := ⟨by decide +kernel, rfl⟩
theorem eX0_best_18 : Dc cX0_best 18 (.getfield 169) 3 21 := ⟨by decide +kernel, rfl⟩
theorem eX0_best_21 : Dc cX0_best 21 (.iload 4) 2 23 := ⟨by decide +kernel, rfl⟩
theorem eX0_best_23 : Dc cX0_best 23 (.invokevirtual 38) 3 26 := ⟨by decide +kernel, rfl⟩
theorem eX0_best_26 : Dc cX0_best 26 (.checkcast 417) 3 29 := ⟨by decide +kernel, rfl⟩
theorem eX0_best_29 : Dc cX0_best 29 (.astore 5) 2 31 := ⟨by decide +kernel, rfl⟩
theorem eX0_best_31 : Dc cX0_best 31 (.aload 5) 2 33 := ⟨by decide +kernel, rfl⟩
theorem eX0_best_33 : Dc cX0_best 33 (.getfield 422) 3 36 := ⟨by decide +kernel, rfl⟩
theorem eX0_best_36 : Dc cX0_best 36 (.aload_n 1) 1 37 := ⟨by decide +kernel, rfl⟩
theorem eX0_best_37 : Db cX0_best 37 (fun o => .if_acmp .ne o) 65 40 := ⟨28, by decide +kernel, by decide, rfl⟩
theorem eX0_best_40 : Dc cX0_best 40 (.aload 5) 2 42 := ⟨by decide +kernel, rfl⟩
theorem eX0_best_42 : Dc cX0_best 42 (.getfield 426) 3 45 := ⟨by decide +kernel, rfl⟩
theorem eX0_best_45 : Dc cX0_best 45 (.iload_n 2) 1 46 := ⟨by decide +kernel, rfl⟩
theorem eX0_best_46 : Db cX0_best 46 (fun o => .if_icmp .ne o) 65 49 := ⟨19, by decide +kernel, by decide, rfl⟩
theorem eX0_best_49 : Dc cX0_best 49 (.aload_n 3) 1 50 := ⟨by decide +kernel, rfl⟩
theorem eX0_best_50 : Db cX0_best 50 (fun o => .ifnull o) 62 53 := ⟨12, by decide +kernel, by decide, rfl⟩
theorem eX0_best_53 : Dc cX0_best 53 (.aload 5) 2 55 := ⟨by decide +kernel, rfl⟩
theorem eX0_best_55 : Dc cX0_best 55 (.aload_n 3) 1 56 := ⟨by decide +kernel, rfl⟩
theorem eX0_best_56 : Dc cX0_best 56 (.invokevirtual 429) 3 59 := ⟨by decide +kernel, rfl⟩
theorem eX0_best_59 : Db cX0_best 59 (fun o => .ifCond .eq o) 65 62 := ⟨6, by decide +kernel, by decide, rfl⟩
theorem eX0_best_62 : Dc cX0_best 62 (.aload 5) 2 64 := ⟨by decide +kernel, rfl⟩
theorem eX0_best_64 : Dc cX0_best 64 (.astore_n 3) 1 65 := ⟨by decide +kernel, rfl⟩
theorem eX0_best_65 : Dc cX0_best 65 (.iinc 4 1) 3 68 := ⟨by decide +kernel, rfl⟩
theorem eX0_best_68 : Db cX0_best 68 (fun o => .goto o) 5 71 := ⟨-63, by decide +kernel, by decide, rfl⟩
theorem eX0_best_71 : Dc cX0_best 71 (.aload_n 3) 1 72 := ⟨by decide +kernel, rfl⟩
theorem eX0_best_72 : Dc cX0_best 72 (.areturn) 1 73 := ⟨by decide +kernel, rfl⟩
theorem eX0_goes_0 : Dc cX0_goes 0 (.aload_n 1) 1 1 := ⟨by decide +kernel, rfl⟩
theorem eX0_goes_1 : Dc cX0_goes 1 (.getfield 422) 3 4 := ⟨by decide +kernel, rfl⟩
theorem eX0_goes_4 : Dc cX0_goes 4 (.astore_n 3) 1 5 := ⟨by decide +kernel, rfl⟩
theorem eX0_goes_5 : Dc cX0_goes 5 (.aload_n 1) 1 6 := ⟨by decide +kernel, rfl⟩
theorem eX0_goes_6 : Dc cX0_goes 6 (.getfield 433) 3 9 := ⟨by decide +kernel, rfl⟩
theorem eX0_goes_9 : Dc cX0_goes 9 (.aload_n 2) 1 10 := ⟨by decide +kernel, rfl⟩
theorem eX0_goes_10 : Dc cX0_goes 10 (.getfield 433) 3 13 := ⟨by decide +kernel, rfl⟩
theorem eX0_goes_13 : Dc cX0_goes 13 (.invokestatic 238) 3 16 := ⟨by decide +kernel, rfl⟩
theorem eX0_goes_16 : Dc cX0_goes 16 (.aload_n 3) 1 17 := ⟨by decide +kernel, rfl⟩
theorem eX0_goes_17 : Dc cX0_goes 17 (.getfield 412) 3 20 := ⟨by decide +kernel, rfl⟩
theorem eX0_goes_20 : Dc cX0_goes 20 (.aload_n 1) 1 21 := ⟨by decide +kernel, rfl⟩
theorem eX0_goes_21 : Dc cX0_goes 21 (.getfield 434) 3 24 := ⟨by decide +kernel, rfl⟩
theorem eX0_goes_24 : Dc cX0_goes 24 (.iaload) 1 25 := ⟨by decide +kernel, rfl⟩
theorem eX0_goes_25 : Dc cX0_goes 25 (.ldc2_w 435) 3 28 := ⟨by decide +kernel, rfl⟩
theorem eX0_goes_28 : Dc cX0_goes 28 (.aload_n 0) 1 29 := ⟨by decide +kernel, rfl⟩
theorem eX0_goes_29 : Dc cX0_goes 29 (.getfield 60) 3 32 := ⟨by decide +kernel, rfl⟩
theorem eX0_goes_32 : Dc cX0_goes 32 (.aload_n 2) 1 33 := ⟨by decide +kernel, rfl⟩
theorem eX0_goes_33 : Dc cX0_goes 33 (.getfield 434) 3 36 := ⟨by decide +kernel, rfl⟩
theorem eX0_goes_36 : Dc cX0_goes 36 (.laload) 1 37 := ⟨by decide +kernel, rfl⟩
theorem eX0_goes_37 : Dc cX0_goes 37 (.aload_n 1) 1 38 := ⟨by decide +kernel, rfl⟩
theorem eX0_goes_38 : Dc cX0_goes 38 (.getfield 437) 3 41 := ⟨by decide +kernel, rfl⟩
theorem eX0_goes_41 : Dc cX0_goes 41 (.i2l) 1 42 := ⟨by decide +kernel, rfl⟩
theorem eX0_goes_42 : Dc cX0_goes 42 (.ldiv) 1 43 := ⟨by decide +kernel, rfl⟩
theorem eX0_goes_43 : Dc cX0_goes 43 (.invokestatic 440) 3 46 := ⟨by decide +kernel, rfl⟩
theorem eX0_goes_46 : Dc cX0_goes 46 (.l2i) 1 47 := ⟨by decide +kernel, rfl⟩
theorem eX0_goes_47 : Dc cX0_goes 47 (.invokestatic 238) 3 50 := ⟨by decide +kernel, rfl⟩
theorem eX0_goes_50 : Dc cX0_goes 50 (.invokestatic 238) 3 53 := ⟨by decide +kernel, rfl⟩
theorem eX0_goes_53 : Dc cX0_goes 53 (.istore 4) 2 55 := ⟨by decide +kernel, rfl⟩
theorem eX0_goes_55 : Dc cX0_goes 55 (.iload 4) 2 57 := ⟨by decide +kernel, rfl⟩
theorem eX0_goes_57 : Db cX0_goes 57 (fun o => .ifCond .ne o) 87 60 := ⟨30, by decide +kernel, by decide, rfl⟩
theorem eX0_goes_60 : Dc cX0_goes 60 (.aload_n 0) 1 61 := ⟨by decide +kernel, rfl⟩
theorem eX0_goes_61 : Dc cX0_goes 61 (.getfield 169) 3 64 := ⟨by decide +kernel, rfl⟩
theorem eX0_goes_64 : Dc cX0_goes 64 (.aload_n 3) 1 65 := ⟨by decide +kernel, rfl⟩
theorem eX0_goes_65 : Dc cX0_goes 65 (.getfield 412) 3 68 := ⟨by decide +kernel, rfl⟩
theorem eX0_goes_68 : Dc cX0_goes 68 (.aload_n 1) 1 69 := ⟨by decide +kernel, rfl⟩
theorem eX0_goes_69 : Dc cX0_goes 69 (.getfield 434) 3 72 := ⟨by decide +kernel, rfl⟩
theorem eX0_goes_72 : Dc cX0_goes 72 (.iaload) 1 73 := ⟨by decide +kernel, rfl⟩
theorem eX0_goes_73 : Db cX0_goes 73 (fun o => .ifCond .ne o) 80 76 := ⟨7, by decide +kernel, by decide, rfl⟩
theorem eX0_goes_76 : Dc cX0_goes 76 (.aload_n 1) 1 77 := ⟨by decide +kernel, rfl⟩
theorem eX0_goes_77 : Db cX0_goes 77 (fun o => .goto o) 81 80 := ⟨4, by decide +kernel, by decide, rfl⟩
theorem eX0_goes_80 : Dc cX0_goes 80 (.aload_n 2) 1 81 := ⟨by decide +kernel, rfl⟩
theorem eX0_goes_81 : Dc cX0_goes 81 (.invokevirtual 443) 3 84 := ⟨by decide +kernel, rfl⟩
theorem eX0_goes_84 : Dc cX0_goes 84 (.pop) 1 85 := ⟨by decide +kernel, rfl⟩
theorem eX0_goes_85 : Dc cX0_goes 85 (.iconst 0) 1 86 := ⟨by decide +kernel, rfl⟩
theorem eX0_goes_86 : Dc cX0_goes 86 (.ireturn) 1 87 := ⟨by decide +kernel, rfl⟩
theorem eX0_goes_87 : Dc cX0_goes 87 (.aload_n 3) 1 88 := ⟨by decide +kernel, rfl⟩
theorem eX0_goes_88 : Dc cX0_goes 88 (.getfield 412) 3 91 := ⟨by decide +kernel, rfl⟩
theorem eX0_goes_91 : Dc cX0_goes 91 (.aload_n 1) 1 92 := ⟨by decide +kernel, rfl⟩
theorem eX0_goes_92 : Dc cX0_goes 92 (.getfield 434) 3 95 := ⟨by decide +kernel, rfl⟩
theorem eX0_goes_95 : Dc cX0_goes 95 (.dup2) 1 96 := ⟨by decide +kernel, rfl⟩
theorem eX0_goes_96 : Dc cX0_goes 96 (.iaload) 1 97 := ⟨by decide +kernel, rfl⟩
theorem eX0_goes_97 : Dc cX0_goes 97 (.iload 4) 2 99 := ⟨by decide +kernel, rfl⟩
theorem eX0_goes_99 : Dc cX0_goes 99 (.isub) 1 100 := ⟨by decide +kernel, rfl⟩
theorem eX0_goes_100 : Dc cX0_goes 100 (.iastore) 1 101 := ⟨by decide +kernel, rfl⟩
theorem eX0_goes_101 : Dc cX0_goes 101 (.aload_n 3) 1 102 := ⟨by decide +kernel, rfl⟩
theorem eX0_goes_102 : Dc cX0_goes 102 (.getfield 412) 3 105 := ⟨by decide +kernel, rfl⟩
theorem eX0_goes_105 : Dc cX0_goes 105 (.aload_n 2) 1 106 := ⟨by decide +kernel, rfl⟩
theorem eX0_goes_106 : Dc cX0_goes 106 (.getfield 434) 3 109 := ⟨by decide +kernel, rfl⟩
theorem eX0_goes_109 : Dc cX0_goes 109 (.dup2) 1 110 := ⟨by decide +kernel, rfl⟩
theorem eX0_goes_110 : Dc cX0_goes 110 (.iaload) 1 111 := ⟨by decide +kernel, rfl⟩
theorem eX0_goes_111 : Dc cX0_goes 111 (.iload 4) 2 113 := ⟨by decide +kernel, rfl⟩
theorem eX0_goes_113 : Dc cX0_goes 113 (.iadd) 1 114 := ⟨by decide +kernel, rfl⟩
theorem eX0_goes_114 : Dc cX0_goes 114 (.iastore) 1 115 := ⟨by decide +kernel, rfl⟩
theorem eX0_goes_115 : Dc cX0_goes 115 (.aload_n 0) 1 116 := ⟨by decide +kernel, rfl⟩
theorem eX0_goes_116 : Dc cX0_goes 116 (.getfield 60) 3 119 := ⟨by decide +kernel, rfl⟩
theorem eX0_goes_119 : Dc cX0_goes 119 (.aload_n 1) 1 120 := ⟨by decide +kernel, rfl⟩
theorem eX0_goes_120 : Dc cX0_goes 120 (.getfield 434) 3 123 := ⟨by decide +kernel, rfl⟩
theorem eX0_goes_123 : Dc cX0_goes 123 (.dup2) 1 124 := ⟨by decide +kernel, rfl⟩
theorem eX0_goes_124 : Dc cX0_goes 124 (.laload) 1 125 := ⟨by decide +kernel, rfl⟩
theorem eX0_goes_125 : Dc cX0_goes 125 (.iload 4) 2 127 := ⟨by decide +kernel, rfl⟩
theorem eX0_goes_127 : Dc cX0_goes 127 (.i2l) 1 128 := ⟨by decide +kernel, rfl⟩
theorem eX0_goes_128 : Dc cX0_goes 128 (.aload_n 1) 1 129 := ⟨by decide +kernel, rfl⟩
theorem eX0_goes_129 : Dc cX0_goes 129 (.getfield 437) 3 132 := ⟨by decide +kernel, rfl⟩
theorem eX0_goes_132 : Dc cX0_goes 132 (.i2l) 1 133 := ⟨by decide +kernel, rfl⟩
theorem eX0_goes_133 : Dc cX0_goes 133 (.lmul) 1 134 := ⟨by decide +kernel, rfl⟩
theorem eX0_goes_134 : Dc cX0_goes 134 (.ladd) 1 135 := ⟨by decide +kernel, rfl⟩
theorem eX0_goes_135 : Dc cX0_goes 135 (.lastore) 1 136 := ⟨by decide +kernel, rfl⟩
theorem eX0_goes_136 : Dc cX0_goes 136 (.aload_n 0) 1 137 := ⟨by decide +kernel, rfl⟩
theorem eX0_goes_137 : Dc cX0_goes 137 (.getfield 60) 3 140 := ⟨by decide +kernel, rfl⟩
theorem eX0_goes_140 : Dc cX0_goes 140 (.aload_n 2) 1 141 := ⟨by decide +kernel, rfl⟩
theorem eX0_goes_141 : Dc cX0_goes 141 (.getfield 434) 3 144 := ⟨by decide +kernel, rfl⟩
theorem eX0_goes_144 : Dc cX0_goes 144 (.dup2) 1 145 := ⟨by decide +kernel, rfl⟩
theorem eX0_goes_145 : Dc cX0_goes 145 (.laload) 1 146 := ⟨by decide +kernel, rfl⟩
theorem eX0_goes_146 : Dc cX0_goes 146 (.iload 4) 2 148 := ⟨by decide +kernel, rfl⟩
theorem eX0_goes_148 : Dc cX0_goes 148 (.i2l) 1 149 := ⟨by decide +kernel, rfl⟩
theorem eX0_goes_149 : Dc cX0_goes 149 (.aload_n 1) 1 150 := ⟨by decide +kernel, rfl⟩
theorem eX0_goes_150 : Dc cX0_goes 150 (.getfield 437) 3 153 := ⟨by decide +kernel, rfl⟩
theorem eX0_goes_153 : Dc cX0_goes 153 (.i2l) 1 154 := ⟨by decide +kernel, rfl⟩
theorem eX0_goes_154 : Dc cX0_goes 154 (.lmul) 1 155 := ⟨by decide +kernel, rfl⟩
theorem eX0_goes_155 : Dc cX0_goes 155 (.lsub) 1 156 := ⟨by decide +kernel, rfl⟩
theorem eX0_goes_156 : Dc cX0_goes 156 (.lastore) 1 157 := ⟨by decide +kernel, rfl⟩
theorem eX0_goes_157 : Dc cX0_goes 157 (.aload_n 3) 1 158 := ⟨by decide +kernel, rfl⟩
theorem eX0_goes_158 : Dc cX0_goes 158 (.aload_n 1) 1 159 := ⟨by decide +kernel, rfl⟩
theorem eX0_goes_159 : Dc cX0_goes 159 (.getfield 437) 3 162 := ⟨by decide +kernel, rfl⟩
theorem eX0_goes_162 : Dc cX0_goes 162 (.putfield 446) 3 165 := ⟨by decide +kernel, rfl⟩
theorem eX0_goes_165 : Dc cX0_goes 165 (.aload_n 1) 1 166 := ⟨by decide +kernel, rfl⟩
theorem eX0_goes_166 : Dc cX0_goes 166 (.dup) 1 167 := ⟨by decide +kernel, rfl⟩
theorem eX0_goes_167 : Dc cX0_goes 167 (.getfield 433) 3 170 := ⟨by decide +kernel, rfl⟩
theorem eX0_goes_170 : Dc cX0_goes 170 (.iload 4) 2 172 := ⟨by decide +kernel, rfl⟩
theorem eX0_goes_172 : Dc cX0_goes 172 (.isub) 1 173 := ⟨by decide +kernel, rfl⟩
theorem eX0_goes_173 : Dc cX0_goes 173 (.putfield 433) 3 176 := ⟨by decide +kernel, rfl⟩
theorem eX0_goes_176 : Dc cX0_goes 176 (.aload_n 2) 1 177 := ⟨by decide +kernel, rfl⟩
theorem eX0_goes_177 : Dc cX0_goes 177 (.dup) 1 178 := ⟨by decide +kernel, rfl⟩
theorem eX0_goes_178 : Dc cX0_goes 178 (.getfield 433) 3 181 := ⟨by decide +kernel, rfl⟩
theorem eX0_goes_181 : Dc cX0_goes 181 (.iload 4) 2 183 := ⟨by decide +kernel, rfl⟩
theorem eX0_goes_183 : Dc cX0_goes 183 (.isub) 1 184 := ⟨by decide +kernel, rfl⟩
theorem eX0_goes_184 : Dc cX0_goes 184 (.putfield 433) 3 187 := ⟨by decide +kernel, rfl⟩
theorem eX0_goes_187 : Dc cX0_goes 187 (.aload_n 1) 1 188 := ⟨by decide +kernel, rfl⟩
theorem eX0_goes_188 : Dc cX0_goes 188 (.getfield 433) 3 191 := ⟨by decide +kernel, rfl⟩
theorem eX0_goes_191 : Db cX0_goes 191 (fun o => .ifCond .ne o) 203 194 := ⟨12, by decide +kernel, by decide, rfl⟩
theorem eX0_goes_194 : Dc cX0_goes 194 (.aload_n 0) 1 195 := ⟨by decide +kernel, rfl⟩
theorem eX0_goes_195 : Dc cX0_goes 195 (.getfield 169) 3 198 := ⟨by decide +kernel, rfl⟩
theorem eX0_goes_198 : Dc cX0_goes 198 (.aload_n 1) 1 199 := ⟨by decide +kernel, rfl⟩
theorem eX0_goes_199 : Dc cX0_goes 199 (.invokevirtual 443) 3 202 := ⟨by decide +kernel, rfl⟩
theorem eX0_goes_202 : Dc cX0_goes 202 (.pop) 1 203 := ⟨by decide +kernel, rfl⟩
theorem eX0_goes_203 : Dc cX0_goes 203 (.aload_n 2) 1 204 := ⟨by decide +kernel, rfl⟩
theorem eX0_goes_204 : Dc cX0_goes 204 (.getfield 433) 3 207 := ⟨by decide +kernel, rfl⟩
theorem eX0_goes_207 : Db cX0_goes 207 (fun o => .ifCond .ne o) 219 210 := ⟨12, by decide +kernel, by decide, rfl⟩
theorem eX0_goes_210 : Dc cX0_goes 210 (.aload_n 0) 1 211 := ⟨by decide +kernel, rfl⟩
theorem eX0_goes_211 : Dc cX0_goes 211 (.getfield 169) 3 214 := ⟨by decide +kernel, rfl⟩
theorem eX0_goes_214 : Dc cX0_goes 214 (.aload_n 2) 1 215 := ⟨by decide +kernel, rfl⟩
theorem eX0_goes_215 : Dc cX0_goes 215 (.invokevirtual 443) 3 218 := ⟨by decide +kernel, rfl⟩
theorem eX0_goes_218 : Dc cX0_goes 218 (.pop) 1 219 := ⟨by decide +kernel, rfl⟩
theorem eX0_goes_219 : Dc cX0_goes 219 (.iload 4) 2 221 := ⟨by decide +kernel, rfl⟩
theorem eX0_goes_221 : Dc cX0_goes 221 (.ireturn) 1 222 := ⟨by decide +kernel, rfl⟩
theorem eX0_read_0 : Dc cX0_read 0 (.aload_n 0) 1 1 := ⟨by decide +kernel, rfl⟩
theorem eX0_read_1 : Dc cX0_read 1 (.iload_n 1) 1 2 := ⟨by decide +kernel, rfl⟩
theorem eX0_read_2 : Dc cX0_read 2 (.invokevirtual 244) 3 5 := ⟨by decide +kernel, rfl⟩
theorem eX0_read_5 : Db cX0_read 5 (fun o => .ifnonnull o) 12 8 := ⟨7, by decide +kernel, by decide, rfl⟩
theorem eX0_read_8 : Dc cX0_read 8 (.iconst (-1)) 1 9 := ⟨by decide +kernel, rfl⟩
theorem eX0_read_9 : Db cX0_read 9 (fun o => .goto o) 20 12 := ⟨11, by decide +kernel, by decide, rfl⟩
theorem eX0_read_12 : Dc cX0_read 12 (.aload_n 0) 1 13 := ⟨by decide +kernel, rfl⟩
theorem eX0_read_13 : Dc cX0_read 13 (.iload_n 1) 1 14 := ⟨by decide +kernel, rfl⟩
theorem eX0_read_14 : Dc cX0_read 14 (.invokevirtual 244) 3 17 := ⟨by decide +kernel, rfl⟩
theorem eX0_read_17 : Dc cX0_read 17 (.getfield 446) 3 20 := ⟨by decide +kernel, rfl⟩
theorem eX0_read_20 : Dc cX0_read 20 (.ireturn) 1 21 := ⟨by decide +kernel, rfl⟩
theorem eX0_call_0 : Dc cX0_call 0 (.aload_n 0) 1 1 := ⟨by decide +kernel, rfl⟩
theorem eX0_call_1 : Dc cX0_call 1 (.iload_n 1) 1 2 := ⟨by decide +kernel, rfl⟩
theorem eX0_call_2 : Dc cX0_call 2 (.invokevirtual 244) 3 5 := ⟨by decide +kernel, rfl⟩
theorem eX0_call_5 : Dc cX0_call 5 (.astore_n 3) 1 6 := ⟨by decide +kernel, rfl⟩
theorem eX0_call_6 : Dc cX0_call 6 (.aload_n 3) 1 7 := ⟨by decide +kernel, rfl⟩
theorem eX0_call_7 : Db cX0_call 7 (fun o => .ifnonnull o) 12 10 := ⟨5, by decide +kernel, by decide, rfl⟩
theorem eX0_call_10 : Dc cX0_call 10 (.iconst (-1)) 1 11 := ⟨by decide +kernel, rfl⟩
theorem eX0_call_11 : Dc cX0_call 11 (.ireturn) 1 12 := ⟨by decide +kernel, rfl⟩
theorem eX0_call_12 : Dc cX0_call 12 (.iload_n 2) 1 13 := ⟨by decide +kernel, rfl⟩
theorem eX0_call_13 : Dc cX0_call 13 (.iconst 1) 1 14 := ⟨by decide +kernel, rfl⟩
theorem eX0_call_14 : Dc cX0_call 14 (.aload_n 0) 1 15 := ⟨by decide +kernel, rfl⟩
theorem eX0_call_15 : Dc cX0_call 15 (.iconst 3) 1 16 := ⟨by decide +kernel, rfl⟩
theorem eX0_call_16 : Dc cX0_call 16 (.aload_n 0) 1 17 := ⟨by decide +kernel, rfl⟩
theorem eX0_call_17 : Dc cX0_call 17 (.getfield 194) 3 20 := ⟨by decide +kernel, rfl⟩
theorem eX0_call_20 : Dc cX0_call 20 (.invokevirtual 118) 3 23 := ⟨by decide +kernel, rfl⟩
theorem eX0_call_23 : Dc cX0_call 23 (.invokestatic 3) 3 26 := ⟨by decide +kernel, rfl⟩
theorem eX0_call_26 : Db cX0_call 26 (fun o => .ifCond .ne o) 32 29 := ⟨6, by decide +kernel, by decide, rfl⟩
theorem eX0_call_29 : Dc cX0_call 29 (.bipush (-2)) 2 31 := ⟨by decide +kernel, rfl⟩
theorem eX0_call_31 : Dc cX0_call 31 (.ireturn) 1 32 := ⟨by decide +kernel, rfl⟩
theorem eX0_call_32 : Dc cX0_call 32 (.aload_n 3) 1 33 := ⟨by decide +kernel, rfl⟩
theorem eX0_call_33 : Dc cX0_call 33 (.getfield 407) 3 36 := ⟨by decide +kernel, rfl⟩
theorem eX0_call_36 : Db cX0_call 36 (fun o => .ifCond .ne o) 68 39 := ⟨32, by decide +kernel, by decide, rfl⟩
theorem eX0_call_39 : Dc cX0_call 39 (.aload_n 3) 1 40 := ⟨by decide +kernel, rfl⟩
theorem eX0_call_40 : Dc cX0_call 40 (.getfield 457) 3 43 := ⟨by decide +kernel, rfl⟩
theorem eX0_call_43 : Dc cX0_call 43 (.iconst (-1)) 1 44 := ⟨by decide +kernel, rfl⟩
theorem eX0_call_44 : Db cX0_call 44 (fun o => .if_icmp .eq o) 71 47 := ⟨27, by decide +kernel, by decide, rfl⟩
theorem eX0_call_47 : Dc cX0_call 47 (.aload_n 0) 1 48 := ⟨by decide +kernel, rfl⟩
theorem eX0_call_48 : Dc cX0_call 48 (.getfield 194) 3 51 := ⟨by decide +kernel, rfl⟩
theorem eX0_call_51 : Dc cX0_call 51 (.aload_n 3) 1 52 := ⟨by decide +kernel, rfl⟩
theorem eX0_call_52 : Dc cX0_call 52 (.getfield 457) 3 55 := ⟨by decide +kernel, rfl⟩
theorem eX0_call_55 : Dc cX0_call 55 (.isub) 1 56 := ⟨by decide +kernel, rfl⟩
theorem eX0_call_56 : Dc cX0_call 56 (.aload_n 0) 1 57 := ⟨by decide +kernel, rfl⟩
theorem eX0_call_57 : Dc cX0_call 57 (.iconst 4) 1 58 := ⟨by decide +kernel, rfl⟩
theorem eX0_call_58 : Dc cX0_call 58 (.aload_n 0) 1 59 := ⟨by decide +kernel, rfl⟩
theorem eX0_call_59 : Dc cX0_call 59 (.getfield 194) 3 62 := ⟨by decide +kernel, rfl⟩
theorem eX0_call_62 : Dc cX0_call 62 (.invokevirtual 118) 3 65 := ⟨by decide +kernel, rfl⟩
theorem eX0_call_65 : Db cX0_call 65 (fun o => .if_icmp .ge o) 71 68 := ⟨6, by decide +kernel, by decide, rfl⟩
theorem eX0_call_68 : Dc cX0_call 68 (.bipush (-3)) 2 70 := ⟨by decide +kernel, rfl⟩
theorem eX0_call_70 : Dc cX0_call 70 (.ireturn) 1 71 := ⟨by decide +kernel, rfl⟩
theorem eX0_call_71 : Dc cX0_call 71 (.aload_n 0) 1 72 := ⟨by decide +kernel, rfl⟩
theorem eX0_call_72 : Dc cX0_call 72 (.invokevirtual 187) 3 75 := ⟨by decide +kernel, rfl⟩
theorem eX0_call_75 : Db cX0_call 75 (fun o => .ifCond .eq o) 81 78 := ⟨6, by decide +kernel, by decide, rfl⟩
theorem eX0_call_78 : Dc cX0_call 78 (.bipush (-4)) 2 80 := ⟨by decide +kernel, rfl⟩
theorem eX0_call_80 : Dc cX0_call 80 (.ireturn) 1 81 := ⟨by decide +kernel, rfl⟩
theorem eX0_call_81 : Dc cX0_call 81 (.aload_n 3) 1 82 := ⟨by decide +kernel, rfl⟩
theorem eX0_call_82 : Dc cX0_call 82 (.aload_n 0) 1 83 := ⟨by decide +kernel, rfl⟩
theorem eX0_call_83 : Dc cX0_call 83 (.getfield 194) 3 86 := ⟨by decide +kernel, rfl⟩
theorem eX0_call_86 : Dc cX0_call 86 (.putfield 457) 3 89 := ⟨by decide +kernel, rfl⟩
theorem eX0_call_89 : Dc cX0_call 89 (.aload_n 0) 1 90 := ⟨by decide +kernel, rfl⟩
theorem eX0_call_90 : Dc cX0_call 90 (.new 460) 3 93 := ⟨by decide +kernel, rfl⟩
theorem eX0_call_93 : Dc cX0_call 93 (.dup) 1 94 := ⟨by decide +kernel, rfl⟩
theorem eX0_call_94 : Dc cX0_call 94 (.aload_n 0) 1 95 := ⟨by decide +kernel, rfl⟩
theorem eX0_call_95 : Dc cX0_call 95 (.getfield 121) 3 98 := ⟨by decide +kernel, rfl⟩
theorem eX0_call_98 : Dc cX0_call 98 (.invokevirtual 32) 3 101 := ⟨by decide +kernel, rfl⟩
theorem eX0_call_101 : Dc cX0_call 101 (.aload_n 0) 1 102 := ⟨by decide +kernel, rfl⟩
theorem eX0_call_102 : Dc cX0_call 102 (.getfield 194) 3 105 := ⟨by decide +kernel, rfl⟩
theorem eX0_call_105 : Dc cX0_call 105 (.aload_n 3) 1 106 := ⟨by decide +kernel, rfl⟩
theorem eX0_call_106 : Dc cX0_call 106 (.iload_n 2) 1 107 := ⟨by decide +kernel, rfl⟩
theorem eX0_call_107 : Dc cX0_call 107 (.invokespecial 462) 3 110 := ⟨by decide +kernel, rfl⟩
theorem eX0_call_110 : Dc cX0_call 110 (.invokevirtual 200) 3 113 := ⟨by decide +kernel, rfl⟩
theorem eX0_call_113 : Dc cX0_call 113 (.ireturn) 1 114 := ⟨by decide +kernel, rfl⟩
theorem eX0_lend_0 : Dc cX0_lend 0 (.aload_n 0) 1 1 := ⟨by decide +kernel, rfl⟩
theorem eX0_lend_1 : Dc cX0_lend 1 (.iload_n 1) 1 2 := ⟨by decide +kernel, rfl⟩
theorem eX0_lend_2 : Dc cX0_lend 2 (.invokevirtual 244) 3 5 := ⟨by decide +kernel, rfl⟩
theorem eX0_lend_5 : Dc cX0_lend 5 (.astore 4) 2 7 := ⟨by decide +kernel, rfl⟩
theorem eX0_lend_7 : Dc cX0_lend 7 (.aload 4) 2 9 := ⟨by decide +kernel, rfl⟩
theorem eX0_lend_9 : Db cX0_lend 9 (fun o => .ifnull o) 19 12 := ⟨10, by decide +kernel, by decide, rfl⟩
theorem eX0_lend_12 : Dc cX0_lend 12 (.iload_n 2) 1 13 := ⟨by decide +kernel, rfl⟩
theorem eX0_lend_13 : Dc cX0_lend 13 (.invokestatic 56) 3 16 := ⟨by decide +kernel, rfl⟩
theorem eX0_lend_16 : Db cX0_lend 16 (fun o => .ifCond .ne o) 21 19 := ⟨5, by decide +kernel, by decide, rfl⟩
theorem eX0_lend_19 : Dc cX0_lend 19 (.iconst (-1)) 1 20 := ⟨by decide +kernel, rfl⟩
theorem eX0_lend_20 : Dc cX0_lend 20 (.ireturn) 1 21 := ⟨by decide +kernel, rfl⟩
theorem eX0_lend_21 : Dc cX0_lend 21 (.iload_n 3) 1 22 := ⟨by decide +kernel, rfl⟩
theorem eX0_lend_22 : Dc cX0_lend 22 (.iconst 1) 1 23 := ⟨by decide +kernel, rfl⟩
theorem eX0_lend_23 : Dc cX0_lend 23 (.sipush 9999) 3 26 := ⟨by decide +kernel, rfl⟩
theorem eX0_lend_26 : Dc cX0_lend 26 (.invokestatic 3) 3 29 := ⟨by decide +kernel, rfl⟩
theorem eX0_lend_29 : Db cX0_lend 29 (fun o => .ifCond .ne o) 35 32 := ⟨6, by decide +kernel, by decide, rfl⟩
theorem eX0_lend_32 : Dc cX0_lend 32 (.bipush (-2)) 2 34 := ⟨by decide +kernel, rfl⟩
theorem eX0_lend_34 : Dc cX0_lend 34 (.ireturn) 1 35 := ⟨by decide +kernel, rfl⟩
theorem eX0_lend_35 : Dc cX0_lend 35 (.aload 4) 2 37 := ⟨by decide +kernel, rfl⟩
theorem eX0_lend_37 : Dc cX0_lend 37 (.getfield 407) 3 40 := ⟨by decide +kernel, rfl⟩
theorem eX0_lend_40 : Db cX0_lend 40 (fun o => .ifCond .ne o) 55 43 := ⟨15, by decide +kernel, by decide, rfl⟩
theorem eX0_lend_43 : Dc cX0_lend 43 (.aload_n 0) 1 44 := ⟨by decide +kernel, rfl⟩
theorem eX0_lend_44 : Dc cX0_lend 44 (.getfield 60) 3 47 := ⟨by decide +kernel, rfl⟩
theorem eX0_lend_47 : Dc cX0_lend 47 (.iload_n 2) 1 48 := ⟨by decide +kernel, rfl⟩
theorem eX0_lend_48 : Dc cX0_lend 48 (.laload) 1 49 := ⟨by decide +kernel, rfl⟩
theorem eX0_lend_49 : Dc cX0_lend 49 (.iload_n 3) 1 50 := ⟨by decide +kernel, rfl⟩
theorem eX0_lend_50 : Dc cX0_lend 50 (.i2l) 1 51 := ⟨by decide +kernel, rfl⟩
theorem eX0_lend_51 : Dc cX0_lend 51 (.lcmp) 1 52 := ⟨by decide +kernel, rfl⟩
theorem eX0_lend_52 : Db cX0_lend 52 (fun o => .ifCond .ge o) 58 55 := ⟨6, by decide +kernel, by decide, rfl⟩
theorem eX0_lend_55 : Dc cX0_lend 55 (.bipush (-3)) 2 57 := ⟨by decide +kernel, rfl⟩
theorem eX0_lend_57 : Dc cX0_lend 57 (.ireturn) 1 58 := ⟨by decide +kernel, rfl⟩
theorem eX0_lend_58 : Dc cX0_lend 58 (.aload_n 0) 1 59 := ⟨by decide +kernel, rfl⟩
theorem eX0_lend_59 : Dc cX0_lend 59 (.invokevirtual 187) 3 62 := ⟨by decide +kernel, rfl⟩
theorem eX0_lend_62 : Db cX0_lend 62 (fun o => .ifCond .eq o) 68 65 := ⟨6, by decide +kernel, by decide, rfl⟩
theorem eX0_lend_65 : Dc cX0_lend 65 (.bipush (-4)) 2 67 := ⟨by decide +kernel, rfl⟩
theorem eX0_lend_67 : Dc cX0_lend 67 (.ireturn) 1 68 := ⟨by decide +kernel, rfl⟩
theorem eX0_lend_68 : Dc cX0_lend 68 (.aload_n 0) 1 69 := ⟨by decide +kernel, rfl⟩
theorem eX0_lend_69 : Dc cX0_lend 69 (.getfield 60) 3 72 := ⟨by decide +kernel, rfl⟩
theorem eX0_lend_72 : Dc cX0_lend 72 (.iload_n 2) 1 73 := ⟨by decide +kernel, rfl⟩
theorem eX0_lend_73 : Dc cX0_lend 73 (.dup2) 1 74 := ⟨by decide +kernel, rfl⟩
theorem eX0_lend_74 : Dc cX0_lend 74 (.laload) 1 75 := ⟨by decide +kernel, rfl⟩
theorem eX0_lend_75 : Dc cX0_lend 75 (.iload_n 3) 1 76 := ⟨by decide +kernel, rfl⟩
theorem eX0_lend_76 : Dc cX0_lend 76 (.i2l) 1 77 := ⟨by decide +kernel, rfl⟩
theorem eX0_lend_77 : Dc cX0_lend 77 (.lsub) 1 78 := ⟨by decide +kernel, rfl⟩
theorem eX0_lend_78 : Dc cX0_lend 78 (.lastore) 1 79 := ⟨by decide +kernel, rfl⟩
theorem eX0_lend_79 : Dc cX0_lend 79 (.aload 4) 2 81 := ⟨by decide +kernel, rfl⟩
theorem eX0_lend_81 : Dc cX0_lend 81 (.dup) 1 82 := ⟨by decide +kernel, rfl⟩
theorem eX0_lend_82 : Dc cX0_lend 82 (.getfield 415) 3 85 := ⟨by decide +kernel, rfl⟩
theorem eX0_lend_85 : Dc cX0_lend 85 (.iload_n 3) 1 86 := ⟨by decide +kernel, rfl⟩
theorem eX0_lend_86 : Dc cX0_lend 86 (.i2l) 1 87 := ⟨by decide +kernel, rfl⟩
theorem eX0_lend_87 : Dc cX0_lend 87 (.ladd) 1 88 := ⟨by decide +kernel, rfl⟩
theorem eX0_lend_88 : Dc cX0_lend 88 (.putfield 415) 3 91 := ⟨by decide +kernel, rfl⟩
theorem eX0_lend_91 : Dc cX0_lend 91 (.aload_n 0) 1 92 := ⟨by decide +kernel, rfl⟩
theorem eX0_lend_92 : Dc cX0_lend 92 (.new 465) 3 95 := ⟨by decide +kernel, rfl⟩
theorem eX0_lend_95 : Dc cX0_lend 95 (.dup) 1 96 := ⟨by decide +kernel, rfl⟩
theorem eX0_lend_96 : Dc cX0_lend 96 (.aload_n 0) 1 97 := ⟨by decide +kernel, rfl⟩
theorem eX0_lend_97 : Dc cX0_lend 97 (.getfield 121) 3 100 := ⟨by decide +kernel, rfl⟩
theorem eX0_lend_100 : Dc cX0_lend 100 (.invokevirtual 32) 3 103 := ⟨by decide +kernel, rfl⟩
theorem eX0_lend_103 : Dc cX0_lend 103 (.aload_n 0) 1 104 := ⟨by decide +kernel, rfl⟩
theorem eX0_lend_104 : Dc cX0_lend 104 (.getfield 194) 3 107 := ⟨by decide +kernel, rfl⟩
theorem eX0_lend_107 : Dc cX0_lend 107 (.aload 4) 2 109 := ⟨by decide +kernel, rfl⟩
theorem eX0_lend_109 : Dc cX0_lend 109 (.iload_n 2) 1 110 := ⟨by decide +kernel, rfl⟩
theorem eX0_lend_110 : Dc cX0_lend 110 (.iload_n 3) 1 111 := ⟨by decide +kernel, rfl⟩
theorem eX0_lend_111 : Dc cX0_lend 111 (.invokespecial 467) 3 114 := ⟨by decide +kernel, rfl⟩
theorem eX0_lend_114 : Dc cX0_lend 114 (.invokevirtual 200) 3 117 := ⟨by decide +kernel, rfl⟩
theorem eX0_lend_117 : Dc cX0_lend 117 (.ireturn) 1 118 := ⟨by decide +kernel, rfl⟩
theorem eX0_settle_0 : Dc cX0_settle 0 (.new 471) 3 3 := ⟨by decide +kernel, rfl⟩
theorem eX0_settle_3 : Dc cX0_settle 3 (.dup) 1 4 := ⟨by decide +kernel, rfl⟩
theorem eX0_settle_4 : Dc cX0_settle 4 (.aload_n 0) 1 5 := ⟨by decide +kernel, rfl⟩
theorem eX0_settle_5 : Dc cX0_settle 5 (.invokespecial 473) 3 8 := ⟨by decide +kernel, rfl⟩
theorem eX0_settle_8 : Dc cX0_settle 8 (.astore_n 1) 1 9 := ⟨by decide +kernel, rfl⟩
theorem eX0_settle_9 : Dc cX0_settle 9 (.iconst 0) 1 10 := ⟨by decide +kernel, rfl⟩
theorem eX0_settle_10 : Dc cX0_settle 10 (.istore_n 2) 1 11 := ⟨by decide +kernel, rfl⟩
theorem eX0_settle_11 : Dc cX0_settle 11 (.iconst 0) 1 12 := ⟨by decide +kernel, rfl⟩
theorem eX0_settle_12 : Dc cX0_settle 12 (.istore_n 3) 1 13 := ⟨by decide +kernel, rfl⟩
theorem eX0_settle_13 : Dc cX0_settle 13 (.iload_n 3) 1 14 := ⟨by decide +kernel, rfl⟩
theorem eX0_settle_14 : Dc cX0_settle 14 (.aload_n 1) 1 15 := ⟨by decide +kernel, rfl⟩
theorem eX0_settle_15 : Dc cX0_settle 15 (.getfield 474) 3 18 := ⟨by decide +kernel, rfl⟩
theorem eX0_settle_18 : Db cX0_settle 18 (fun o => .if_icmp .ge o) 45 21 := ⟨27, by decide +kernel, by decide, rfl⟩
theorem eX0_settle_21 : Dc cX0_settle 21 (.iload_n 2) 1 22 := ⟨by decide +kernel, rfl⟩
theorem eX0_settle_22 : Dc cX0_settle 22 (.aload_n 1) 1 23 := ⟨by decide +kernel, rfl⟩
theorem eX0_settle_23 : Dc cX0_settle 23 (.iload_n 3) 1 24 := ⟨by decide +kernel, rfl⟩
theorem eX0_settle_24 : Dc cX0_settle 24 (.invokevirtual 475) 3 27 := ⟨by decide +kernel, rfl⟩
theorem eX0_settle_27 : Db cX0_settle 27 (fun o => .ifCond .eq o) 36 30 := ⟨9, by decide +kernel, by decide, rfl⟩
theorem eX0_settle_30 : Dc cX0_settle 30 (.iconst 1) 1 31 := ⟨by decide +kernel, rfl⟩
theorem eX0_settle_31 : Dc cX0_settle 31 (.iload_n 3) 1 32 := ⟨by decide +kernel, rfl⟩
theorem eX0_settle_32 : Dc cX0_settle 32 (.ishl) 1 33 := ⟨by decide +kernel, rfl⟩
theorem eX0_settle_33 : Db cX0_settle 33 (fun o => .goto o) 37 36 := ⟨4, by decide +kernel, by decide, rfl⟩
theorem eX0_settle_36 : Dc cX0_settle 36 (.iconst 0) 1 37 := ⟨by decide +kernel, rfl⟩
theorem eX0_settle_37 : Dc cX0_settle 37 (.ior) 1 38 := ⟨by decide +kernel, rfl⟩
theorem eX0_settle_38 : Dc cX0_settle 38 (.istore_n 2) 1 39 := ⟨by decide +kernel, rfl⟩
theorem eX0_settle_39 : Dc cX0_settle 39 (.iinc 3 1) 3 42 := ⟨by decide +kernel, rfl⟩
theorem eX0_settle_42 : Db cX0_settle 42 (fun o => .goto o) 13 45 := ⟨-29, by decide +kernel, by decide, rfl⟩
theorem eX0_settle_45 : Dc cX0_settle 45 (.iconst 0) 1 46 := ⟨by decide +kernel, rfl⟩
theorem eX0_settle_46 : Dc cX0_settle 46 (.istore_n 3) 1 47 := ⟨by decide +kernel, rfl⟩
theorem eX0_settle_47 : Dc cX0_settle 47 (.iload_n 3) 1 48 := ⟨by decide +kernel, rfl⟩
theorem eX0_settle_48 : Dc cX0_settle 48 (.bipush 8) 2 50 := ⟨by decide +kernel, rfl⟩
theorem eX0_settle_50 : Db cX0_settle 50 (fun o => .if_icmp .ge o) 128 53 := ⟨78, by decide +kernel, by decide, rfl⟩
theorem eX0_settle_53 : Dc cX0_settle 53 (.aload_n 0) 1 54 := ⟨by decide +kernel, rfl⟩
theorem eX0_settle_54 : Dc cX0_settle 54 (.getfield 60) 3 57 := ⟨by decide +kernel, rfl⟩
theorem eX0_settle_57 : Dc cX0_settle 57 (.iload_n 3) 1 58 := ⟨by decide +kernel, rfl⟩
theorem eX0_settle_58 : Dc cX0_settle 58 (.dup2) 1 59 := ⟨by decide +kernel, rfl⟩
theorem eX0_settle_59 : Dc cX0_settle 59 (.laload) 1 60 := ⟨by decide +kernel, rfl⟩
theorem eX0_settle_60 : Dc cX0_settle 60 (.aload_n 1) 1 61 := ⟨by decide +kernel, rfl⟩
theorem eX0_settle_61 : Dc cX0_settle 61 (.iload_n 3) 1 62 := ⟨by decide +kernel, rfl⟩
theorem eX0_settle_62 : Dc cX0_settle 62 (.invokevirtual 478) 3 65 := ⟨by decide +kernel, rfl⟩
theorem eX0_settle_65 : Dc cX0_settle 65 (.ladd) 1 66 := ⟨by decide +kernel, rfl⟩
theorem eX0_settle_66 : Dc cX0_settle 66 (.lastore) 1 67 := ⟨by decide +kernel, rfl⟩
theorem eX0_settle_67 : Dc cX0_settle 67 (.iconst 0) 1 68 := ⟨by decide +kernel, rfl⟩
theorem eX0_settle_68 : Dc cX0_settle 68 (.istore 4) 2 70 := ⟨by decide +kernel, rfl⟩
theorem eX0_settle_70 : Dc cX0_settle 70 (.iload 4) 2 72 := ⟨by decide +kernel, rfl⟩
theorem eX0_settle_72 : Dc cX0_settle 72 (.aload_n 0) 1 73 := ⟨by decide +kernel, rfl⟩
theorem eX0_settle_73 : Dc cX0_settle 73 (.getfield 191) 3 76 := ⟨by decide +kernel, rfl⟩
theorem eX0_settle_76 : Db cX0_settle 76 (fun o => .if_icmp .ge o) 122 79 := ⟨46, by decide +kernel, by decide, rfl⟩
theorem eX0_settle_79 : Dc cX0_settle 79 (.aload_n 1) 1 80 := ⟨by decide +kernel, rfl⟩
theorem eX0_settle_80 : Dc cX0_settle 80 (.iload_n 3) 1 81 := ⟨by decide +kernel, rfl⟩
theorem eX0_settle_81 : Dc cX0_settle 81 (.invokevirtual 475) 3 84 := ⟨by decide +kernel, rfl⟩
theorem eX0_settle_84 : Db cX0_settle 84 (fun o => .ifCond .eq o) 122 87 := ⟨38, by decide +kernel, by decide, rfl⟩
theorem eX0_settle_87 : Dc cX0_settle 87 (.aload_n 1) 1 88 := ⟨by decide +kernel, rfl⟩
theorem eX0_settle_88 : Dc cX0_settle 88 (.getfield 482) 3 91 := ⟨by decide +kernel, rfl⟩
theorem eX0_settle_91 : Dc cX0_settle 91 (.iload_n 3) 1 92 := ⟨by decide +kernel, rfl⟩
theorem eX0_settle_92 : Dc cX0_settle 92 (.aaload) 1 93 := ⟨by decide +kernel, rfl⟩
theorem eX0_settle_93 : Dc cX0_settle 93 (.bipush 8) 2 95 := ⟨by decide +kernel, rfl⟩
theorem eX0_settle_95 : Dc cX0_settle 95 (.iload 4) 2 97 := ⟨by decide +kernel, rfl⟩
theorem eX0_settle_97 : Dc cX0_settle 97 (.iadd) 1 98 := ⟨by decide +kernel, rfl⟩
theorem eX0_settle_98 : Dc cX0_settle 98 (.laload) 1 99 := ⟨by decide +kernel, rfl⟩
theorem eX0_settle_99 : Dc cX0_settle 99 (.lconst 0) 1 100 := ⟨by decide +kernel, rfl⟩
theorem eX0_settle_100 : Dc cX0_settle 100 (.lcmp) 1 101 := ⟨by decide +kernel, rfl⟩
theorem eX0_settle_101 : Db cX0_settle 101 (fun o => .ifCond .le o) 116 104 := ⟨15, by decide +kernel, by decide, rfl⟩
theorem eX0_settle_104 : Dc cX0_settle 104 (.aload_n 0) 1 105 := ⟨by decide +kernel, rfl⟩
theorem eX0_settle_105 : Dc cX0_settle 105 (.iload 4) 2 107 := ⟨by decide +kernel, rfl⟩
theorem eX0_settle_107 : Dc cX0_settle 107 (.invokevirtual 486) 3 110 := ⟨by decide +kernel, rfl⟩
theorem eX0_settle_110 : Dc cX0_settle 110 (.getfield 412) 3 113 := ⟨by decide +kernel, rfl⟩
theorem eX0_settle_113 : Dc cX0_settle 113 (.iload_n 3) 1 114 := ⟨by decide +kernel, rfl⟩
theorem eX0_settle_114 : Dc cX0_settle 114 (.iconst 0) 1 115 := ⟨by decide +kernel, rfl⟩
theorem eX0_settle_115 : Dc cX0_settle 115 (.iastore) 1 116 := ⟨by decide +kernel, rfl⟩
theorem eX0_settle_116 : Dc cX0_settle 116 (.iinc 4 1) 3 119 := ⟨by decide +kernel, rfl⟩
theorem eX0_settle_119 : Db cX0_settle 119 (fun o => .goto o) 70 122 := ⟨-49, by decide +kernel, by decide, rfl⟩
theorem eX0_settle_122 : Dc cX0_settle 122 (.iinc 3 1) 3 125 := ⟨by decide +kernel, rfl⟩
theorem eX0_settle_125 : Db cX0_settle 125 (fun o => .goto o) 47 128 := ⟨-78, by decide +kernel, by decide, rfl⟩
theorem eX0_settle_128 : Dc cX0_settle 128 (.iconst 0) 1 129 := ⟨by decide +kernel, rfl⟩
theorem eX0_settle_129 : Dc cX0_settle 129 (.istore_n 3) 1 130 := ⟨by decide +kernel, rfl⟩
theorem eX0_settle_130 : Dc cX0_settle 130 (.iload_n 3) 1 131 := ⟨by decide +kernel, rfl⟩
theorem eX0_settle_131 : Dc cX0_settle 131 (.aload_n 0) 1 132 := ⟨by decide +kernel, rfl⟩
theorem eX0_settle_132 : Dc cX0_settle 132 (.getfield 191) 3 135 := ⟨by decide +kernel, rfl⟩
theorem eX0_settle_135 : Db cX0_settle 135 (fun o => .if_icmp .ge o) 187 138 := ⟨52, by decide +kernel, by decide, rfl⟩
theorem eX0_settle_138 : Dc cX0_settle 138 (.aload_n 0) 1 139 := ⟨by decide +kernel, rfl⟩
theorem eX0_settle_139 : Dc cX0_settle 139 (.iload_n 3) 1 140 := ⟨by decide +kernel, rfl⟩
theorem eX0_settle_140 : Dc cX0_settle 140 (.invokevirtual 486) 3 143 := ⟨by decide +kernel, rfl⟩
theorem eX0_settle_143 : Dc cX0_settle 143 (.astore 4) 2 145 := ⟨by decide +kernel, rfl⟩
theorem eX0_settle_145 : Dc cX0_settle 145 (.aload 4) 2 147 := ⟨by decide +kernel, rfl⟩
theorem eX0_settle_147 : Dc cX0_settle 147 (.dup) 1 148 := ⟨by decide +kernel, rfl⟩
theorem eX0_settle_148 : Dc cX0_settle 148 (.getfield 415) 3 151 := ⟨by decide +kernel, rfl⟩
theorem eX0_settle_151 : Dc cX0_settle 151 (.aload_n 1) 1 152 := ⟨by decide +kernel, rfl⟩
theorem eX0_settle_152 : Dc cX0_settle 152 (.bipush 8) 2 154 := ⟨by decide +kernel, rfl⟩
theorem eX0_settle_154 : Dc cX0_settle 154 (.iload_n 3) 1 155 := ⟨by decide +kernel, rfl⟩
theorem eX0_settle_155 : Dc cX0_settle 155 (.iadd) 1 156 := ⟨by decide +kernel, rfl⟩
theorem eX0_settle_156 : Dc cX0_settle 156 (.invokevirtual 478) 3 159 := ⟨by decide +kernel, rfl⟩
theorem eX0_settle_159 : Dc cX0_settle 159 (.ladd) 1 160 := ⟨by decide +kernel, rfl⟩
theorem eX0_settle_160 : Dc cX0_settle 160 (.putfield 415) 3 163 := ⟨by decide +kernel, rfl⟩
theorem eX0_settle_163 : Dc cX0_settle 163 (.aload 4) 2 165 := ⟨by decide +kernel, rfl⟩
theorem eX0_settle_165 : Dc cX0_settle 165 (.dup) 1 166 := ⟨by decide +kernel, rfl⟩
theorem eX0_settle_166 : Dc cX0_settle 166 (.getfield 407) 3 169 := ⟨by decide +kernel, rfl⟩
theorem eX0_settle_169 : Dc cX0_settle 169 (.aload_n 1) 1 170 := ⟨by decide +kernel, rfl⟩
theorem eX0_settle_170 : Dc cX0_settle 170 (.bipush 8) 2 172 := ⟨by decide +kernel, rfl⟩
theorem eX0_settle_172 : Dc cX0_settle 172 (.iload_n 3) 1 173 := ⟨by decide +kernel, rfl⟩
theorem eX0_settle_173 : Dc cX0_settle 173 (.iadd) 1 174 := ⟨by decide +kernel, rfl⟩
theorem eX0_settle_174 : Dc cX0_settle 174 (.invokevirtual 475) 3 177 := ⟨by decide +kernel, rfl⟩
theorem eX0_settle_177 : Dc cX0_settle 177 (.ior) 1 178 := ⟨by decide +kernel, rfl⟩
theorem eX0_settle_178 : Dc cX0_settle 178 (.putfield 407) 3 181 := ⟨by decide +kernel, rfl⟩
theorem eX0_settle_181 : Dc cX0_settle 181 (.iinc 3 1) 3 184 := ⟨by decide +kernel, rfl⟩
theorem eX0_settle_184 : Db cX0_settle 184 (fun o => .goto o) 130 187 := ⟨-54, by decide +kernel, by decide, rfl⟩
theorem eX0_settle_187 : Dc cX0_settle 187 (.iconst 0) 1 188 := ⟨by decide +kernel, rfl⟩
theorem eX0_settle_188 : Dc cX0_settle 188 (.istore 4) 2 190 := ⟨by decide +kernel, rfl⟩
theorem eX0_settle_190 : Dc cX0_settle 190 (.iload 4) 2 192 := ⟨by decide +kernel, rfl⟩
theorem eX0_settle_192 : Dc cX0_settle 192 (.aload_n 0) 1 193 := ⟨by decide +kernel, rfl⟩
theorem eX0_settle_193 : Dc cX0_settle 193 (.getfield 121) 3 196 := ⟨by decide +kernel, rfl⟩
theorem eX0_settle_196 : Dc cX0_settle 196 (.invokevirtual 32) 3 199 := ⟨by decide +kernel, rfl⟩
theorem eX0_settle_199 : Db cX0_settle 199 (fun o => .if_icmp .ge o) 238 202 := ⟨39, by decide +kernel, by decide, rfl⟩
theorem eX0_settle_202 : Dc cX0_settle 202 (.aload_n 0) 1 203 := ⟨by decide +kernel, rfl⟩
theorem eX0_settle_203 : Dc cX0_settle 203 (.getfield 121) 3 206 := ⟨by decide +kernel, rfl⟩
theorem eX0_settle_206 : Dc cX0_settle 206 (.iload 4) 2 208 := ⟨by decide +kernel, rfl⟩
theorem eX0_settle_208 : Dc cX0_settle 208 (.invokevirtual 38) 3 211 := ⟨by decide +kernel, rfl⟩
theorem eX0_settle_211 : Dc cX0_settle 211 (.astore 5) 2 213 := ⟨by decide +kernel, rfl⟩
theorem eX0_settle_213 : Dc cX0_settle 213 (.aload 5) 2 215 := ⟨by decide +kernel, rfl⟩
theorem eX0_settle_215 : Dc cX0_settle 215 (.instanceof 460) 3 218 := ⟨by decide +kernel, rfl⟩
theorem eX0_settle_218 : Db cX0_settle 218 (fun o => .ifCond .eq o) 232 221 := ⟨14, by decide +kernel, by decide, rfl⟩
theorem eX0_settle_221 : Dc cX0_settle 221 (.aload 5) 2 223 := ⟨by decide +kernel, rfl⟩
theorem eX0_settle_223 : Dc cX0_settle 223 (.checkcast 460) 3 226 := ⟨by decide +kernel, rfl⟩
theorem eX0_settle_226 : Dc cX0_settle 226 (.astore_n 3) 1 227 := ⟨by decide +kernel, rfl⟩
theorem eX0_settle_227 : Dc cX0_settle 227 (.aload_n 3) 1 228 := ⟨by decide +kernel, rfl⟩
theorem eX0_settle_228 : Dc cX0_settle 228 (.iconst 1) 1 229 := ⟨by decide +kernel, rfl⟩
theorem eX0_settle_229 : Dc cX0_settle 229 (.putfield 489) 3 232 := ⟨by decide +kernel, rfl⟩
theorem eX0_settle_232 : Dc cX0_settle 232 (.iinc 4 1) 3 235 := ⟨by decide +kernel, rfl⟩
theorem eX0_settle_235 : Db cX0_settle 235 (fun o => .goto o) 190 238 := ⟨-45, by decide +kernel, by decide, rfl⟩
theorem eX0_settle_238 : Dc cX0_settle 238 (.iload_n 2) 1 239 := ⟨by decide +kernel, rfl⟩
theorem eX0_settle_239 : Dc cX0_settle 239 (.ireturn) 1 240 := ⟨by decide +kernel, rfl⟩
theorem eX0_schemeBy_0 : Dc cX0_schemeBy 0 (.iconst 0) 1 1 := ⟨by decide +kernel, rfl⟩
theorem eX0_schemeBy_1 : Dc cX0_schemeBy 1 (.istore_n 2) 1 2 := ⟨by decide +kernel, rfl⟩
theorem eX0_schemeBy_2 : Dc cX0_schemeBy 2 (.iload_n 2) 1 3 := ⟨by decide +kernel, rfl⟩
theorem eX0_schemeBy_3 : Dc cX0_schemeBy 3 (.aload_n 0) 1 4 := ⟨by decide +kernel, rfl⟩
theorem eX0_schemeBy_4 : Dc cX0_schemeBy 4 (.getfield 121) 3 7 := ⟨by decide +kernel, rfl⟩
theorem eX0_schemeBy_7 : Dc cX0_schemeBy 7 (.invokevirtual 32) 3 10 := ⟨by decide +kernel, rfl⟩
theorem eX0_schemeBy_10 : Db cX0_schemeBy 10 (fun o => .if_icmp .ge o) 45 13 := ⟨35, by decide +kernel, by decide, rfl⟩
theorem eX0_schemeBy_13 : Dc cX0_schemeBy 13 (.aload_n 0) 1 14 := ⟨by decide +kernel, rfl⟩
theorem eX0_schemeBy_14 : Dc cX0_schemeBy 14 (.iload_n 2) 1 15 := ⟨by decide +kernel, rfl⟩
theorem eX0_schemeBy_15 : Dc cX0_schemeBy 15 (.invokevirtual 244) 3 18 := ⟨by decide +kernel, rfl⟩
theorem eX0_schemeBy_18 : Db cX0_schemeBy 18 (fun o => .ifnull o) 39 21 := ⟨21, by decide +kernel, by decide, rfl⟩
theorem eX0_schemeBy_21 : Dc cX0_schemeBy 21 (.aload_n 0) 1 22 := ⟨by decide +kernel, rfl⟩
theorem eX0_schemeBy_22 : Dc cX0_schemeBy 22 (.iload_n 2) 1 23 := ⟨by decide +kernel, rfl⟩
theorem eX0_schemeBy_23 : Dc cX0_schemeBy 23 (.invokevirtual 244) 3 26 := ⟨by decide +kernel, rfl⟩
theorem eX0_schemeBy_26 : Dc cX0_schemeBy 26 (.getfield 470) 3 29 := ⟨by decide +kernel, rfl⟩
theorem eX0_schemeBy_29 : Dc cX0_schemeBy 29 (.iload_n 1) 1 30 := ⟨by decide +kernel, rfl⟩
theorem eX0_schemeBy_30 : Db cX0_schemeBy 30 (fun o => .if_icmp .ne o) 39 33 := ⟨9, by decide +kernel, by decide, rfl⟩
theorem eX0_schemeBy_33 : Dc cX0_schemeBy 33 (.aload_n 0) 1 34 := ⟨by decide +kernel, rfl⟩
theorem eX0_schemeBy_34 : Dc cX0_schemeBy 34 (.iload_n 2) 1 35 := ⟨by decide +kernel, rfl⟩
theorem eX0_schemeBy_35 : Dc cX0_schemeBy 35 (.invokevirtual 244) 3 38 := ⟨by decide +kernel, rfl⟩
theorem eX0_schemeBy_38 : Dc cX0_schemeBy 38 (.areturn) 1 39 := ⟨by decide +kernel, rfl⟩
theorem eX0_schemeBy_39 : Dc cX0_schemeBy 39 (.iinc 2 1) 3 42 := ⟨by decide +kernel, rfl⟩
theorem eX0_schemeBy_42 : Db cX0_schemeBy 42 (fun o => .goto o) 2 45 := ⟨-40, by decide +kernel, by decide, rfl⟩
theorem eX0_schemeBy_45 : Dc cX0_schemeBy 45 (.aconst_null) 1 46 := ⟨by decide +kernel, rfl⟩
theorem eX0_schemeBy_46 : Dc cX0_schemeBy 46 (.areturn) 1 47 := ⟨by decide +kernel, rfl⟩
theorem eX0_along_0 : Dc cX0_along 0 (.iload_n 1) 1 1 := ⟨by decide +kernel, rfl⟩
theorem eX0_along_1 : Db cX0_along 1 (fun o => .ifCond .ne o) 29 4 := ⟨28, by decide +kernel, by decide, rfl⟩
theorem eX0_along_4 : Dc cX0_along 4 (.iload_n 2) 1 5 := ⟨by decide +kernel, rfl⟩
theorem eX0_along_5 : Dc cX0_along 5 (.invokestatic 56) 3 8 := ⟨by decide +kernel, rfl⟩
theorem eX0_along_8 : Db cX0_along 8 (fun o => .ifCond .eq o) 27 11 := ⟨19, by decide +kernel, by decide, rfl⟩
theorem eX0_along_11 : Dc cX0_along 11 (.new 471) 3 14 := ⟨by decide +kernel, rfl⟩
theorem eX0_along_14 : Dc cX0_along 14 (.dup) 1 15 := ⟨by decide +kernel, rfl⟩
theorem eX0_along_15 : Dc cX0_along 15 (.aload_n 0) 1 16 := ⟨by decide +kernel, rfl⟩
theorem eX0_along_16 : Dc cX0_along 16 (.invokespecial 473) 3 19 := ⟨by decide +kernel, rfl⟩
theorem eX0_along_19 : Dc cX0_along 19 (.iload_n 2) 1 20 := ⟨by decide +kernel, rfl⟩
theorem eX0_along_20 : Dc cX0_along 20 (.invokevirtual 492) 3 23 := ⟨by decide +kernel, rfl⟩
theorem eX0_along_23 : Dc cX0_along 23 (.l2i) 1 24 := ⟨by decide +kernel, rfl⟩
theorem eX0_along_24 : Db cX0_along 24 (fun o => .goto o) 28 27 := ⟨4, by decide +kernel, by decide, rfl⟩
theorem eX0_along_27 : Dc cX0_along 27 (.iconst (-1)) 1 28 := ⟨by decide +kernel, rfl⟩
theorem eX0_along_28 : Dc cX0_along 28 (.ireturn) 1 29 := ⟨by decide +kernel, rfl⟩
theorem eX0_along_29 : Dc cX0_along 29 (.iload_n 1) 1 30 := ⟨by decide +kernel, rfl⟩
theorem eX0_along_30 : Dc cX0_along 30 (.iconst 1) 1 31 := ⟨by decide +kernel, rfl⟩
theorem eX0_along_31 : Db cX0_along 31 (fun o => .if_icmp .ne o) 68 34 := ⟨37, by decide +kernel, by decide, rfl⟩
theorem eX0_along_34 : Dc cX0_along 34 (.aload_n 0) 1 35 := ⟨by decide +kernel, rfl⟩
theorem eX0_along_35 : Dc cX0_along 35 (.iload_n 2) 1 36 := ⟨by decide +kernel, rfl⟩
theorem eX0_along_36 : Dc cX0_along 36 (.invokevirtual 244) 3 39 := ⟨by decide +kernel, rfl⟩
theorem eX0_along_39 : Db cX0_along 39 (fun o => .ifnull o) 68 42 := ⟨29, by decide +kernel, by decide, rfl⟩
theorem eX0_along_42 : Dc cX0_along 42 (.new 471) 3 45 := ⟨by decide +kernel, rfl⟩
theorem eX0_along_45 : Dc cX0_along 45 (.dup) 1 46 := ⟨by decide +kernel, rfl⟩
theorem eX0_along_46 : Dc cX0_along 46 (.aload_n 0) 1 47 := ⟨by decide +kernel, rfl⟩
theorem eX0_along_47 : Dc cX0_along 47 (.invokespecial 473) 3 50 := ⟨by decide +kernel, rfl⟩
theorem eX0_along_50 : Dc cX0_along 50 (.bipush 8) 2 52 := ⟨by decide +kernel, rfl⟩
theorem eX0_along_52 : Dc cX0_along 52 (.aload_n 0) 1 53 := ⟨by decide +kernel, rfl⟩
theorem eX0_along_53 : Dc cX0_along 53 (.iload_n 2) 1 54 := ⟨by decide +kernel, rfl⟩
theorem eX0_along_54 : Dc cX0_along 54 (.invokevirtual 244) 3 57 := ⟨by decide +kernel, rfl⟩
theorem eX0_along_57 : Dc cX0_along 57 (.getfield 470) 3 60 := ⟨by decide +kernel, rfl⟩
theorem eX0_along_60 : Dc cX0_along 60 (.iadd) 1 61 := ⟨by decide +kernel, rfl⟩
theorem eX0_along_61 : Dc cX0_along 61 (.invokevirtual 492) 3 64 := ⟨by decide +kernel, rfl⟩
theorem eX0_along_64 : Dc cX0_along 64 (.l2i) 1 65 := ⟨by decide +kernel, rfl⟩
theorem eX0_along_65 : Db cX0_along 65 (fun o => .goto o) 69 68 := ⟨4, by decide +kernel, by decide, rfl⟩
theorem eX0_along_68 : Dc cX0_along 68 (.iconst (-1)) 1 69 := ⟨by decide +kernel, rfl⟩
theorem eX0_along_69 : Dc cX0_along 69 (.ireturn) 1 70 := ⟨by decide +kernel, rfl⟩
theorem eX0_dig_0 : Dc cX0_dig 0 (.iload_n 1) 1 1 := ⟨by decide +kernel, rfl⟩
theorem eX0_dig_1 : Dc cX0_dig 1 (.iconst 1) 1 2 := ⟨by decide +kernel, rfl⟩
theorem eX0_dig_2 : Dc cX0_dig 2 (.bipush 50) 2 4 := ⟨by decide +kernel, rfl⟩
theorem eX0_dig_4 : Dc cX0_dig 4 (.invokestatic 3) 3 7 := ⟨by decide +kernel, rfl⟩
theorem eX0_dig_7 : Db cX0_dig 7 (fun o => .ifCond .eq o) 22 10 := ⟨15, by decide +kernel, by decide, rfl⟩
theorem eX0_dig_10 : Dc cX0_dig 10 (.aload_n 0) 1 11 := ⟨by decide +kernel, rfl⟩
theorem eX0_dig_11 : Dc cX0_dig 11 (.getfield 194) 3 14 := ⟨by decide +kernel, rfl⟩
theorem eX0_dig_14 : Dc cX0_dig 14 (.iload_n 1) 1 15 := ⟨by decide +kernel, rfl⟩
theorem eX0_dig_15 : Dc cX0_dig 15 (.iadd) 1 16 := ⟨by decide +kernel, rfl⟩
theorem eX0_dig_16 : Dc cX0_dig 16 (.sipush 999) 3 19 := ⟨by decide +kernel, rfl⟩
theorem eX0_dig_19 : Db cX0_dig 19 (fun o => .if_icmp .le o) 25 22 := ⟨6, by decide +kernel, by decide, rfl⟩
theorem eX0_dig_22 : Dc cX0_dig 22 (.bipush (-2)) 2 24 := ⟨by decide +kernel, rfl⟩
theorem eX0_dig_24 : Dc cX0_dig 24 (.ireturn) 1 25 := ⟨by decide +kernel, rfl⟩
theorem eX0_dig_25 : Dc cX0_dig 25 (.iconst 0) 1 26 := ⟨by decide +kernel, rfl⟩
theorem eX0_dig_26 : Dc cX0_dig 26 (.istore_n 2) 1 27 := ⟨by decide +kernel, rfl⟩
theorem eX0_dig_27 : Dc cX0_dig 27 (.iload_n 2) 1 28 := ⟨by decide +kernel, rfl⟩
theorem eX0_dig_28 : Dc cX0_dig 28 (.iload_n 1) 1 29 := ⟨by decide +kernel, rfl⟩
theorem eX0_dig_29 : Db cX0_dig 29 (fun o => .if_icmp .ge o) 42 32 := ⟨13, by decide +kernel, by decide, rfl⟩
theorem eX0_dig_32 : Dc cX0_dig 32 (.aload_n 0) 1 33 := ⟨by decide +kernel, rfl⟩
theorem eX0_dig_33 : Dc cX0_dig 33 (.invokevirtual 510) 3 36 := ⟨by decide +kernel, rfl⟩
theorem eX0_dig_36 : Dc cX0_dig 36 (.iinc 2 1) 3 39 := ⟨by decide +kernel, rfl⟩
theorem eX0_dig_39 : Db cX0_dig 39 (fun o => .goto o) 27 42 := ⟨-12, by decide +kernel, by decide, rfl⟩
theorem eX0_dig_42 : Dc cX0_dig 42 (.aload_n 0) 1 43 := ⟨by decide +kernel, rfl⟩
theorem eX0_dig_43 : Dc cX0_dig 43 (.getfield 194) 3 46 := ⟨by decide +kernel, rfl⟩
theorem eX0_dig_46 : Dc cX0_dig 46 (.ireturn) 1 47 := ⟨by decide +kernel, rfl⟩
