set_option maxRecDepth 100000
theorem eX0_goDay_0 : Dc cX0_goDay 0 (.aload_n 0) 1 1 := ⟨by decide +kernel, rfl⟩
theorem eX0_goDay_1 : Dc cX0_goDay 1 (.iconst 3) 1 2 := ⟨by decide +kernel, rfl⟩
theorem eX0_goDay_2 : Dc cX0_goDay 2 (.aload_n 0) 1 3 := ⟨by decide +kernel, rfl⟩
theorem eX0_goDay_3 : Dc cX0_goDay 3 (.getfield 64) 3 6 := ⟨by decide +kernel, rfl⟩
theorem eX0_goDay_6 : Dc cX0_goDay 6 (.imul) 1 7 := ⟨by decide +kernel, rfl⟩
theorem eX0_goDay_7 : Dc cX0_goDay 7 (.putfield 500) 3 10 := ⟨by decide +kernel, rfl⟩
theorem eX0_goDay_10 : Dc cX0_goDay 10 (.iconst 0) 1 11 := ⟨by decide +kernel, rfl⟩
theorem eX0_goDay_11 : Dc cX0_goDay 11 (.istore_n 2) 1 12 := ⟨by decide +kernel, rfl⟩
theorem eX0_goDay_12 : Dc cX0_goDay 12 (.iload_n 2) 1 13 := ⟨by decide +kernel, rfl⟩
theorem eX0_goDay_13 : Dc cX0_goDay 13 (.aload_n 0) 1 14 := ⟨by decide +kernel, rfl⟩
theorem eX0_goDay_14 : Dc cX0_goDay 14 (.getfield 121) 3 17 := ⟨by decide +kernel, rfl⟩
theorem eX0_goDay_17 : Dc cX0_goDay 17 (.invokevirtual 32) 3 20 := ⟨by decide +kernel, rfl⟩
theorem eX0_goDay_20 : Db cX0_goDay 20 (fun o => .if_icmp .ge o) 62 23 := ⟨42, by decide +kernel, by decide, rfl⟩
theorem eX0_goDay_23 : Dc cX0_goDay 23 (.aload_n 0) 1 24 := ⟨by decide +kernel, rfl⟩
theorem eX0_goDay_24 : Dc cX0_goDay 24 (.getfield 121) 3 27 := ⟨by decide +kernel, rfl⟩
theorem eX0_goDay_27 : Dc cX0_goDay 27 (.iload_n 2) 1 28 := ⟨by decide +kernel, rfl⟩
theorem eX0_goDay_28 : Dc cX0_goDay 28 (.invokevirtual 38) 3 31 := ⟨by decide +kernel, rfl⟩
theorem eX0_goDay_31 : Dc cX0_goDay 31 (.astore_n 3) 1 32 := ⟨by decide +kernel, rfl⟩
theorem eX0_goDay_32 : Dc cX0_goDay 32 (.aload_n 3) 1 33 := ⟨by decide +kernel, rfl⟩
theorem eX0_goDay_33 : Dc cX0_goDay 33 (.instanceof 136) 3 36 := ⟨by decide +kernel, rfl⟩
theorem eX0_goDay_36 : Db cX0_goDay 36 (fun o => .ifCond .eq o) 56 39 := ⟨20, by decide +kernel, by decide, rfl⟩
theorem eX0_goDay_39 : Dc cX0_goDay 39 (.aload_n 3) 1 40 := ⟨by decide +kernel, rfl⟩
theorem eX0_goDay_40 : Dc cX0_goDay 40 (.checkcast 136) 3 43 := ⟨by decide +kernel, rfl⟩
theorem eX0_goDay_43 : Dc cX0_goDay 43 (.astore_n 1) 1 44 := ⟨by decide +kernel, rfl⟩
theorem eX0_goDay_44 : Dc cX0_goDay 44 (.aload_n 1) 1 45 := ⟨by decide +kernel, rfl⟩
theorem eX0_goDay_45 : Dc cX0_goDay 45 (.getfield 344) 3 48 := ⟨by decide +kernel, rfl⟩
theorem eX0_goDay_48 : Db cX0_goDay 48 (fun o => .ifCond .eq o) 56 51 := ⟨8, by decide +kernel, by decide, rfl⟩
theorem eX0_goDay_51 : Dc cX0_goDay 51 (.aload_n 0) 1 52 := ⟨by decide +kernel, rfl⟩
theorem eX0_goDay_52 : Dc cX0_goDay 52 (.aload_n 1) 1 53 := ⟨by decide +kernel, rfl⟩
theorem eX0_goDay_53 : Dc cX0_goDay 53 (.invokevirtual 506) 3 56 := ⟨by decide +kernel, rfl⟩
theorem eX0_goDay_56 : Dc cX0_goDay 56 (.iinc 2 1) 3 59 := ⟨by decide +kernel, rfl⟩
theorem eX0_goDay_59 : Db cX0_goDay 59 (fun o => .goto o) 12 62 := ⟨-47, by decide +kernel, by decide, rfl⟩
theorem eX0_goDay_62 : Dc cX0_goDay 62 (.aload_n 0) 1 63 := ⟨by decide +kernel, rfl⟩
theorem eX0_goDay_63 : Dc cX0_goDay 63 (.getfield 121) 3 66 := ⟨by decide +kernel, rfl⟩
theorem eX0_goDay_66 : Dc cX0_goDay 66 (.invokevirtual 32) 3 69 := ⟨by decide +kernel, rfl⟩
theorem eX0_goDay_69 : Dc cX0_goDay 69 (.newarray .int) 2 71 := ⟨by decide +kernel, rfl⟩
theorem eX0_goDay_71 : Dc cX0_goDay 71 (.astore_n 1) 1 72 := ⟨by decide +kernel, rfl⟩
theorem eX0_goDay_72 : Dc cX0_goDay 72 (.iconst 0) 1 73 := ⟨by decide +kernel, rfl⟩
theorem eX0_goDay_73 : Dc cX0_goDay 73 (.istore_n 2) 1 74 := ⟨by decide +kernel, rfl⟩
theorem eX0_goDay_74 : Dc cX0_goDay 74 (.iload_n 2) 1 75 := ⟨by decide +kernel, rfl⟩
theorem eX0_goDay_75 : Dc cX0_goDay 75 (.aload_n 1) 1 76 := ⟨by decide +kernel, rfl⟩
theorem eX0_goDay_76 : Dc cX0_goDay 76 (.arraylength) 1 77 := ⟨by decide +kernel, rfl⟩
theorem eX0_goDay_77 : Db cX0_goDay 77 (fun o => .if_icmp .ge o) 140 80 := ⟨63, by decide +kernel, by decide, rfl⟩
theorem eX0_goDay_80 : Dc cX0_goDay 80 (.aload_n 1) 1 81 := ⟨by decide +kernel, rfl⟩
theorem eX0_goDay_81 : Dc cX0_goDay 81 (.iload_n 2) 1 82 := ⟨by decide +kernel, rfl⟩
theorem eX0_goDay_82 : Dc cX0_goDay 82 (.aload_n 0) 1 83 := ⟨by decide +kernel, rfl⟩
theorem eX0_goDay_83 : Dc cX0_goDay 83 (.iload_n 2) 1 84 := ⟨by decide +kernel, rfl⟩
theorem eX0_goDay_84 : Dc cX0_goDay 84 (.invokevirtual 244) 3 87 := ⟨by decide +kernel, rfl⟩
theorem eX0_goDay_87 : Db cX0_goDay 87 (fun o => .ifnull o) 102 90 := ⟨15, by decide +kernel, by decide, rfl⟩
theorem eX0_goDay_90 : Dc cX0_goDay 90 (.aload_n 0) 1 91 := ⟨by decide +kernel, rfl⟩
theorem eX0_goDay_91 : Dc cX0_goDay 91 (.iload_n 2) 1 92 := ⟨by decide +kernel, rfl⟩
theorem eX0_goDay_92 : Dc cX0_goDay 92 (.invokevirtual 244) 3 95 := ⟨by decide +kernel, rfl⟩
theorem eX0_goDay_95 : Dc cX0_goDay 95 (.getfield 415) 3 98 := ⟨by decide +kernel, rfl⟩
theorem eX0_goDay_98 : Dc cX0_goDay 98 (.l2i) 1 99 := ⟨by decide +kernel, rfl⟩
theorem eX0_goDay_99 : Db cX0_goDay 99 (fun o => .goto o) 133 102 := ⟨34, by decide +kernel, by decide, rfl⟩
theorem eX0_goDay_102 : Dc cX0_goDay 102 (.aload_n 0) 1 103 := ⟨by decide +kernel, rfl⟩
theorem eX0_goDay_103 : Dc cX0_goDay 103 (.iload_n 2) 1 104 := ⟨by decide +kernel, rfl⟩
theorem eX0_goDay_104 : Dc cX0_goDay 104 (.invokevirtual 332) 3 107 := ⟨by decide +kernel, rfl⟩
theorem eX0_goDay_107 : Db cX0_goDay 107 (fun o => .ifnull o) 132 110 := ⟨25, by decide +kernel, by decide, rfl⟩
theorem eX0_goDay_110 : Dc cX0_goDay 110 (.aload_n 0) 1 111 := ⟨by decide +kernel, rfl⟩
theorem eX0_goDay_111 : Dc cX0_goDay 111 (.iload_n 2) 1 112 := ⟨by decide +kernel, rfl⟩
theorem eX0_goDay_112 : Dc cX0_goDay 112 (.invokevirtual 332) 3 115 := ⟨by decide +kernel, rfl⟩
theorem eX0_goDay_115 : Dc cX0_goDay 115 (.getfield 344) 3 118 := ⟨by decide +kernel, rfl⟩
theorem eX0_goDay_118 : Db cX0_goDay 118 (fun o => .ifCond .eq o) 132 121 := ⟨14, by decide +kernel, by decide, rfl⟩
theorem eX0_goDay_121 : Dc cX0_goDay 121 (.aload_n 0) 1 122 := ⟨by decide +kernel, rfl⟩
theorem eX0_goDay_122 : Dc cX0_goDay 122 (.iload_n 2) 1 123 := ⟨by decide +kernel, rfl⟩
theorem eX0_goDay_123 : Dc cX0_goDay 123 (.invokevirtual 332) 3 126 := ⟨by decide +kernel, rfl⟩
theorem eX0_goDay_126 : Dc cX0_goDay 126 (.getfield 348) 3 129 := ⟨by decide +kernel, rfl⟩
theorem eX0_goDay_129 : Db cX0_goDay 129 (fun o => .goto o) 133 132 := ⟨4, by decide +kernel, by decide, rfl⟩
theorem eX0_goDay_132 : Dc cX0_goDay 132 (.iconst (-1)) 1 133 := ⟨by decide +kernel, rfl⟩
theorem eX0_goDay_133 : Dc cX0_goDay 133 (.iastore) 1 134 := ⟨by decide +kernel, rfl⟩
theorem eX0_goDay_134 : Dc cX0_goDay 134 (.iinc 2 1) 3 137 := ⟨by decide +kernel, rfl⟩
theorem eX0_goDay_137 : Db cX0_goDay 137 (fun o => .goto o) 74 140 := ⟨-63, by decide +kernel, by decide, rfl⟩
theorem eX0_goDay_140 : Dc cX0_goDay 140 (.aload_n 0) 1 141 := ⟨by decide +kernel, rfl⟩
theorem eX0_goDay_141 : Dc cX0_goDay 141 (.getfield 173) 3 144 := ⟨by decide +kernel, rfl⟩
theorem eX0_goDay_144 : Dc cX0_goDay 144 (.aload_n 0) 1 145 := ⟨by decide +kernel, rfl⟩
theorem eX0_goDay_145 : Dc cX0_goDay 145 (.getfield 194) 3 148 := ⟨by decide +kernel, rfl⟩
theorem eX0_goDay_148 : Dc cX0_goDay 148 (.aload_n 1) 1 149 := ⟨by decide +kernel, rfl⟩
theorem eX0_goDay_149 : Dc cX0_goDay 149 (.aastore) 1 150 := ⟨by decide +kernel, rfl⟩
theorem eX0_goDay_150 : Dc cX0_goDay 150 (.aload_n 0) 1 151 := ⟨by decide +kernel, rfl⟩
theorem eX0_goDay_151 : Dc cX0_goDay 151 (.dup) 1 152 := ⟨by decide +kernel, rfl⟩
theorem eX0_goDay_152 : Dc cX0_goDay 152 (.getfield 194) 3 155 := ⟨by decide +kernel, rfl⟩
theorem eX0_goDay_155 : Dc cX0_goDay 155 (.iconst 1) 1 156 := ⟨by decide +kernel, rfl⟩
theorem eX0_goDay_156 : Dc cX0_goDay 156 (.iadd) 1 157 := ⟨by decide +kernel, rfl⟩
theorem eX0_goDay_157 : Dc cX0_goDay 157 (.putfield 194) 3 160 := ⟨by decide +kernel, rfl⟩
theorem eX0_goDay_160 : Dc cX0_goDay 160 (.return_) 1 161 := ⟨by decide +kernel, rfl⟩
theorem eX0_digs_0 : Dc cX0_digs 0 (.aload_n 1) 1 1 := ⟨by decide +kernel, rfl⟩
theorem eX0_digs_1 : Dc cX0_digs 1 (.getfield 495) 3 4 := ⟨by decide +kernel, rfl⟩
theorem eX0_digs_4 : Dc cX0_digs 4 (.astore_n 2) 1 5 := ⟨by decide +kernel, rfl⟩
theorem eX0_digs_5 : Dc cX0_digs 5 (.aload_n 1) 1 6 := ⟨by decide +kernel, rfl⟩
theorem eX0_digs_6 : Dc cX0_digs 6 (.getfield 348) 3 9 := ⟨by decide +kernel, rfl⟩
theorem eX0_digs_9 : Db cX0_digs 9 (fun o => .ifCond .eq o) 19 12 := ⟨10, by decide +kernel, by decide, rfl⟩
theorem eX0_digs_12 : Dc cX0_digs 12 (.aload_n 2) 1 13 := ⟨by decide +kernel, rfl⟩
theorem eX0_digs_13 : Dc cX0_digs 13 (.getfield 407) 3 16 := ⟨by decide +kernel, rfl⟩
theorem eX0_digs_16 : Db cX0_digs 16 (fun o => .ifCond .eq o) 20 19 := ⟨4, by decide +kernel, by decide, rfl⟩
theorem eX0_digs_19 : Dc cX0_digs 19 (.return_) 1 20 := ⟨by decide +kernel, rfl⟩
theorem eX0_digs_20 : Dc cX0_digs 20 (.ldc2_w 496) 3 23 := ⟨by decide +kernel, rfl⟩
theorem eX0_digs_23 : Dc cX0_digs 23 (.aload_n 0) 1 24 := ⟨by decide +kernel, rfl⟩
theorem eX0_digs_24 : Dc cX0_digs 24 (.getfield 64) 3 27 := ⟨by decide +kernel, rfl⟩
theorem eX0_digs_27 : Dc cX0_digs 27 (.i2l) 1 28 := ⟨by decide +kernel, rfl⟩
theorem eX0_digs_28 : Dc cX0_digs 28 (.lmul) 1 29 := ⟨by decide +kernel, rfl⟩
theorem eX0_digs_29 : Dc cX0_digs 29 (.aload_n 1) 1 30 := ⟨by decide +kernel, rfl⟩
theorem eX0_digs_30 : Dc cX0_digs 30 (.getfield 348) 3 33 := ⟨by decide +kernel, rfl⟩
theorem eX0_digs_33 : Dc cX0_digs 33 (.i2l) 1 34 := ⟨by decide +kernel, rfl⟩
theorem eX0_digs_34 : Dc cX0_digs 34 (.invokestatic 440) 3 37 := ⟨by decide +kernel, rfl⟩
theorem eX0_digs_37 : Dc cX0_digs 37 (.aload_n 2) 1 38 := ⟨by decide +kernel, rfl⟩
theorem eX0_digs_38 : Dc cX0_digs 38 (.getfield 415) 3 41 := ⟨by decide +kernel, rfl⟩
theorem eX0_digs_41 : Dc cX0_digs 41 (.ldc2_w 498) 3 44 := ⟨by decide +kernel, rfl⟩
theorem eX0_digs_44 : Dc cX0_digs 44 (.ldiv) 1 45 := ⟨by decide +kernel, rfl⟩
theorem eX0_digs_45 : Dc cX0_digs 45 (.invokestatic 440) 3 48 := ⟨by decide +kernel, rfl⟩
theorem eX0_digs_48 : Dc cX0_digs 48 (.l2i) 1 49 := ⟨by decide +kernel, rfl⟩
theorem eX0_digs_49 : Dc cX0_digs 49 (.istore_n 3) 1 50 := ⟨by decide +kernel, rfl⟩
theorem eX0_digs_50 : Dc cX0_digs 50 (.iload_n 3) 1 51 := ⟨by decide +kernel, rfl⟩
theorem eX0_digs_51 : Dc cX0_digs 51 (.aload_n 0) 1 52 := ⟨by decide +kernel, rfl⟩
theorem eX0_digs_52 : Dc cX0_digs 52 (.getfield 500) 3 55 := ⟨by decide +kernel, rfl⟩
theorem eX0_digs_55 : Dc cX0_digs 55 (.invokestatic 238) 3 58 := ⟨by decide +kernel, rfl⟩
theorem eX0_digs_58 : Dc cX0_digs 58 (.istore_n 3) 1 59 := ⟨by decide +kernel, rfl⟩
theorem eX0_digs_59 : Dc cX0_digs 59 (.aload_n 0) 1 60 := ⟨by decide +kernel, rfl⟩
theorem eX0_digs_60 : Dc cX0_digs 60 (.dup) 1 61 := ⟨by decide +kernel, rfl⟩
theorem eX0_digs_61 : Dc cX0_digs 61 (.getfield 500) 3 64 := ⟨by decide +kernel, rfl⟩
theorem eX0_digs_64 : Dc cX0_digs 64 (.iload_n 3) 1 65 := ⟨by decide +kernel, rfl⟩
theorem eX0_digs_65 : Dc cX0_digs 65 (.isub) 1 66 := ⟨by decide +kernel, rfl⟩
theorem eX0_digs_66 : Dc cX0_digs 66 (.putfield 500) 3 69 := ⟨by decide +kernel, rfl⟩
theorem eX0_digs_69 : Dc cX0_digs 69 (.aload_n 1) 1 70 := ⟨by decide +kernel, rfl⟩
theorem eX0_digs_70 : Dc cX0_digs 70 (.dup) 1 71 := ⟨by decide +kernel, rfl⟩
theorem eX0_digs_71 : Dc cX0_digs 71 (.getfield 348) 3 74 := ⟨by decide +kernel, rfl⟩
theorem eX0_digs_74 : Dc cX0_digs 74 (.iload_n 3) 1 75 := ⟨by decide +kernel, rfl⟩
theorem eX0_digs_75 : Dc cX0_digs 75 (.isub) 1 76 := ⟨by decide +kernel, rfl⟩
theorem eX0_digs_76 : Dc cX0_digs 76 (.putfield 348) 3 79 := ⟨by decide +kernel, rfl⟩
theorem eX0_digs_79 : Dc cX0_digs 79 (.aload_n 2) 1 80 := ⟨by decide +kernel, rfl⟩
theorem eX0_digs_80 : Dc cX0_digs 80 (.dup) 1 81 := ⟨by decide +kernel, rfl⟩
theorem eX0_digs_81 : Dc cX0_digs 81 (.getfield 415) 3 84 := ⟨by decide +kernel, rfl⟩
theorem eX0_digs_84 : Dc cX0_digs 84 (.ldc2_w 498) 3 87 := ⟨by decide +kernel, rfl⟩
theorem eX0_digs_87 : Dc cX0_digs 87 (.iload_n 3) 1 88 := ⟨by decide +kernel, rfl⟩
theorem eX0_digs_88 : Dc cX0_digs 88 (.i2l) 1 89 := ⟨by decide +kernel, rfl⟩
theorem eX0_digs_89 : Dc cX0_digs 89 (.lmul) 1 90 := ⟨by decide +kernel, rfl⟩
theorem eX0_digs_90 : Dc cX0_digs 90 (.lsub) 1 91 := ⟨by decide +kernel, rfl⟩
theorem eX0_digs_91 : Dc cX0_digs 91 (.putfield 415) 3 94 := ⟨by decide +kernel, rfl⟩
theorem eX0_digs_94 : Dc cX0_digs 94 (.aload_n 1) 1 95 := ⟨by decide +kernel, rfl⟩
theorem eX0_digs_95 : Dc cX0_digs 95 (.getfield 348) 3 98 := ⟨by decide +kernel, rfl⟩
theorem eX0_digs_98 : Db cX0_digs 98 (fun o => .ifCond .ne o) 109 101 := ⟨11, by decide +kernel, by decide, rfl⟩
theorem eX0_digs_101 : Dc cX0_digs 101 (.aload_n 1) 1 102 := ⟨by decide +kernel, rfl⟩
theorem eX0_digs_102 : Dc cX0_digs 102 (.aload_n 0) 1 103 := ⟨by decide +kernel, rfl⟩
theorem eX0_digs_103 : Dc cX0_digs 103 (.getfield 194) 3 106 := ⟨by decide +kernel, rfl⟩
theorem eX0_digs_106 : Dc cX0_digs 106 (.putfield 503) 3 109 := ⟨by decide +kernel, rfl⟩
theorem eX0_digs_109 : Dc cX0_digs 109 (.return_) 1 110 := ⟨by decide +kernel, rfl⟩
theorem eX0_last_0 : Dc cX0_last 0 (.aload_n 0) 1 1 := ⟨by decide +kernel, rfl⟩
theorem eX0_last_1 : Dc cX0_last 1 (.iload_n 1) 1 2 := ⟨by decide +kernel, rfl⟩
theorem eX0_last_2 : Dc cX0_last 2 (.invokevirtual 332) 3 5 := ⟨by decide +kernel, rfl⟩
theorem eX0_last_5 : Dc cX0_last 5 (.astore_n 3) 1 6 := ⟨by decide +kernel, rfl⟩
theorem eX0_last_6 : Dc cX0_last 6 (.aload_n 3) 1 7 := ⟨by decide +kernel, rfl⟩
theorem eX0_last_7 : Db cX0_last 7 (fun o => .ifnull o) 19 10 := ⟨12, by decide +kernel, by decide, rfl⟩
theorem eX0_last_10 : Dc cX0_last 10 (.iload_n 2) 1 11 := ⟨by decide +kernel, rfl⟩
theorem eX0_last_11 : Dc cX0_last 11 (.iconst 0) 1 12 := ⟨by decide +kernel, rfl⟩
theorem eX0_last_12 : Dc cX0_last 12 (.iconst 1) 1 13 := ⟨by decide +kernel, rfl⟩
theorem eX0_last_13 : Dc cX0_last 13 (.invokestatic 3) 3 16 := ⟨by decide +kernel, rfl⟩
theorem eX0_last_16 : Db cX0_last 16 (fun o => .ifCond .ne o) 21 19 := ⟨5, by decide +kernel, by decide, rfl⟩
theorem eX0_last_19 : Dc cX0_last 19 (.iconst (-1)) 1 20 := ⟨by decide +kernel, rfl⟩
theorem eX0_last_20 : Dc cX0_last 20 (.ireturn) 1 21 := ⟨by decide +kernel, rfl⟩
theorem eX0_last_21 : Dc cX0_last 21 (.aload_n 3) 1 22 := ⟨by decide +kernel, rfl⟩
theorem eX0_last_22 : Dc cX0_last 22 (.getfield 344) 3 25 := ⟨by decide +kernel, rfl⟩
theorem eX0_last_25 : Db cX0_last 25 (fun o => .ifCond .ne o) 31 28 := ⟨6, by decide +kernel, by decide, rfl⟩
theorem eX0_last_28 : Dc cX0_last 28 (.bipush (-3)) 2 30 := ⟨by decide +kernel, rfl⟩
theorem eX0_last_30 : Dc cX0_last 30 (.ireturn) 1 31 := ⟨by decide +kernel, rfl⟩
theorem eX0_last_31 : Dc cX0_last 31 (.iload_n 2) 1 32 := ⟨by decide +kernel, rfl⟩
theorem eX0_last_32 : Db cX0_last 32 (fun o => .ifCond .ne o) 42 35 := ⟨10, by decide +kernel, by decide, rfl⟩
theorem eX0_last_35 : Dc cX0_last 35 (.aload_n 3) 1 36 := ⟨by decide +kernel, rfl⟩
theorem eX0_last_36 : Dc cX0_last 36 (.getfield 348) 3 39 := ⟨by decide +kernel, rfl⟩
theorem eX0_last_39 : Db cX0_last 39 (fun o => .goto o) 46 42 := ⟨7, by decide +kernel, by decide, rfl⟩
theorem eX0_last_42 : Dc cX0_last 42 (.aload_n 3) 1 43 := ⟨by decide +kernel, rfl⟩
theorem eX0_last_43 : Dc cX0_last 43 (.getfield 503) 3 46 := ⟨by decide +kernel, rfl⟩
theorem eX0_last_46 : Dc cX0_last 46 (.ireturn) 1 47 := ⟨by decide +kernel, rfl⟩
theorem eX0_known_0 : Dc cX0_known 0 (.iload_n 2) 1 1 := ⟨by decide +kernel, rfl⟩
theorem eX0_known_1 : Dc cX0_known 1 (.iconst 0) 1 2 := ⟨by decide +kernel, rfl⟩
theorem eX0_known_2 : Dc cX0_known 2 (.aload_n 0) 1 3 := ⟨by decide +kernel, rfl⟩
theorem eX0_known_3 : Dc cX0_known 3 (.getfield 194) 3 6 := ⟨by decide +kernel, rfl⟩
theorem eX0_known_6 : Dc cX0_known 6 (.iconst 1) 1 7 := ⟨by decide +kernel, rfl⟩
theorem eX0_known_7 : Dc cX0_known 7 (.isub) 1 8 := ⟨by decide +kernel, rfl⟩
theorem eX0_known_8 : Dc cX0_known 8 (.invokestatic 3) 3 11 := ⟨by decide +kernel, rfl⟩
theorem eX0_known_11 : Db cX0_known 11 (fun o => .ifCond .eq o) 30 14 := ⟨19, by decide +kernel, by decide, rfl⟩
theorem eX0_known_14 : Dc cX0_known 14 (.aload_n 0) 1 15 := ⟨by decide +kernel, rfl⟩
theorem eX0_known_15 : Dc cX0_known 15 (.iload_n 1) 1 16 := ⟨by decide +kernel, rfl⟩
theorem eX0_known_16 : Dc cX0_known 16 (.invokevirtual 244) 3 19 := ⟨by decide +kernel, rfl⟩
theorem eX0_known_19 : Db cX0_known 19 (fun o => .ifnonnull o) 32 22 := ⟨13, by decide +kernel, by decide, rfl⟩
theorem eX0_known_22 : Dc cX0_known 22 (.aload_n 0) 1 23 := ⟨by decide +kernel, rfl⟩
theorem eX0_known_23 : Dc cX0_known 23 (.iload_n 1) 1 24 := ⟨by decide +kernel, rfl⟩
theorem eX0_known_24 : Dc cX0_known 24 (.invokevirtual 332) 3 27 := ⟨by decide +kernel, rfl⟩
theorem eX0_known_27 : Db cX0_known 27 (fun o => .ifnonnull o) 32 30 := ⟨5, by decide +kernel, by decide, rfl⟩
theorem eX0_known_30 : Dc cX0_known 30 (.iconst (-1)) 1 31 := ⟨by decide +kernel, rfl⟩
theorem eX0_known_31 : Dc cX0_known 31 (.ireturn) 1 32 := ⟨by decide +kernel, rfl⟩
theorem eX0_known_32 : Dc cX0_known 32 (.iload_n 1) 1 33 := ⟨by decide +kernel, rfl⟩
theorem eX0_known_33 : Dc cX0_known 33 (.aload_n 0) 1 34 := ⟨by decide +kernel, rfl⟩
theorem eX0_known_34 : Dc cX0_known 34 (.getfield 173) 3 37 := ⟨by decide +kernel, rfl⟩
theorem eX0_known_37 : Dc cX0_known 37 (.iload_n 2) 1 38 := ⟨by decide +kernel, rfl⟩
theorem eX0_known_38 : Dc cX0_known 38 (.aaload) 1 39 := ⟨by decide +kernel, rfl⟩
theorem eX0_known_39 : Dc cX0_known 39 (.arraylength) 1 40 := ⟨by decide +kernel, rfl⟩
theorem eX0_known_40 : Db cX0_known 40 (fun o => .if_icmp .ge o) 54 43 := ⟨14, by decide +kernel, by decide, rfl⟩
theorem eX0_known_43 : Dc cX0_known 43 (.aload_n 0) 1 44 := ⟨by decide +kernel, rfl⟩
theorem eX0_known_44 : Dc cX0_known 44 (.getfield 173) 3 47 := ⟨by decide +kernel, rfl⟩
theorem eX0_known_47 : Dc cX0_known 47 (.iload_n 2) 1 48 := ⟨by decide +kernel, rfl⟩
theorem eX0_known_48 : Dc cX0_known 48 (.aaload) 1 49 := ⟨by decide +kernel, rfl⟩
theorem eX0_known_49 : Dc cX0_known 49 (.iload_n 1) 1 50 := ⟨by decide +kernel, rfl⟩
theorem eX0_known_50 : Dc cX0_known 50 (.iaload) 1 51 := ⟨by decide +kernel, rfl⟩
theorem eX0_known_51 : Db cX0_known 51 (fun o => .goto o) 55 54 := ⟨4, by decide +kernel, by decide, rfl⟩
theorem eX0_known_54 : Dc cX0_known 54 (.iconst (-1)) 1 55 := ⟨by decide +kernel, rfl⟩
theorem eX0_known_55 : Dc cX0_known 55 (.ireturn) 1 56 := ⟨by decide +kernel, rfl⟩
theorem eX0_meet_0 : Dc cX0_meet 0 (.iconst 2) 1 1 := ⟨by decide +kernel, rfl⟩
theorem eX0_meet_1 : Dc cX0_meet 1 (.newarray .int) 2 3 := ⟨by decide +kernel, rfl⟩
theorem eX0_meet_3 : Dc cX0_meet 3 (.astore_n 1) 1 4 := ⟨by decide +kernel, rfl⟩
theorem eX0_meet_4 : Dc cX0_meet 4 (.iconst 0) 1 5 := ⟨by decide +kernel, rfl⟩
theorem eX0_meet_5 : Dc cX0_meet 5 (.istore_n 3) 1 6 := ⟨by decide +kernel, rfl⟩
theorem eX0_meet_6 : Dc cX0_meet 6 (.iload_n 3) 1 7 := ⟨by decide +kernel, rfl⟩
theorem eX0_meet_7 : Dc cX0_meet 7 (.aload_n 0) 1 8 := ⟨by decide +kernel, rfl⟩
theorem eX0_meet_8 : Dc cX0_meet 8 (.getfield 121) 3 11 := ⟨by decide +kernel, rfl⟩
theorem eX0_meet_11 : Dc cX0_meet 11 (.invokevirtual 32) 3 14 := ⟨by decide +kernel, rfl⟩
theorem eX0_meet_14 : Db cX0_meet 14 (fun o => .if_icmp .ge o) 84 17 := ⟨70, by decide +kernel, by decide, rfl⟩
theorem eX0_meet_17 : Dc cX0_meet 17 (.aload_n 0) 1 18 := ⟨by decide +kernel, rfl⟩
theorem eX0_meet_18 : Dc cX0_meet 18 (.getfield 121) 3 21 := ⟨by decide +kernel, rfl⟩
theorem eX0_meet_21 : Dc cX0_meet 21 (.iload_n 3) 1 22 := ⟨by decide +kernel, rfl⟩
theorem eX0_meet_22 : Dc cX0_meet 22 (.invokevirtual 38) 3 25 := ⟨by decide +kernel, rfl⟩
theorem eX0_meet_25 : Dc cX0_meet 25 (.astore 4) 2 27 := ⟨by decide +kernel, rfl⟩
theorem eX0_meet_27 : Dc cX0_meet 27 (.aload 4) 2 29 := ⟨by decide +kernel, rfl⟩
theorem eX0_meet_29 : Dc cX0_meet 29 (.instanceof 136) 3 32 := ⟨by decide +kernel, rfl⟩
theorem eX0_meet_32 : Db cX0_meet 32 (fun o => .ifCond .eq o) 78 35 := ⟨46, by decide +kernel, by decide, rfl⟩
theorem eX0_meet_35 : Dc cX0_meet 35 (.aload 4) 2 37 := ⟨by decide +kernel, rfl⟩
theorem eX0_meet_37 : Dc cX0_meet 37 (.checkcast 136) 3 40 := ⟨by decide +kernel, rfl⟩
theorem eX0_meet_40 : Dc cX0_meet 40 (.astore_n 2) 1 41 := ⟨by decide +kernel, rfl⟩
theorem eX0_meet_41 : Dc cX0_meet 41 (.aload_n 2) 1 42 := ⟨by decide +kernel, rfl⟩
theorem eX0_meet_42 : Dc cX0_meet 42 (.getfield 503) 3 45 := ⟨by decide +kernel, rfl⟩
theorem eX0_meet_45 : Dc cX0_meet 45 (.bipush (-5)) 2 47 := ⟨by decide +kernel, rfl⟩
theorem eX0_meet_47 : Db cX0_meet 47 (fun o => .if_icmp .eq o) 78 50 := ⟨31, by decide +kernel, by decide, rfl⟩
theorem eX0_meet_50 : Dc cX0_meet 50 (.aload_n 1) 1 51 := ⟨by decide +kernel, rfl⟩
theorem eX0_meet_51 : Dc cX0_meet 51 (.aload_n 2) 1 52 := ⟨by decide +kernel, rfl⟩
theorem eX0_meet_52 : Dc cX0_meet 52 (.getfield 513) 3 55 := ⟨by decide +kernel, rfl⟩
theorem eX0_meet_55 : Dc cX0_meet 55 (.dup2) 1 56 := ⟨by decide +kernel, rfl⟩
theorem eX0_meet_56 : Dc cX0_meet 56 (.iaload) 1 57 := ⟨by decide +kernel, rfl⟩
theorem eX0_meet_57 : Dc cX0_meet 57 (.iconst 1) 1 58 := ⟨by decide +kernel, rfl⟩
theorem eX0_meet_58 : Dc cX0_meet 58 (.aload_n 2) 1 59 := ⟨by decide +kernel, rfl⟩
theorem eX0_meet_59 : Dc cX0_meet 59 (.getfield 514) 3 62 := ⟨by decide +kernel, rfl⟩
theorem eX0_meet_62 : Dc cX0_meet 62 (.getfield 515) 3 65 := ⟨by decide +kernel, rfl⟩
theorem eX0_meet_65 : Dc cX0_meet 65 (.ishl) 1 66 := ⟨by decide +kernel, rfl⟩
theorem eX0_meet_66 : Dc cX0_meet 66 (.iconst 1) 1 67 := ⟨by decide +kernel, rfl⟩
theorem eX0_meet_67 : Dc cX0_meet 67 (.aload_n 2) 1 68 := ⟨by decide +kernel, rfl⟩
theorem eX0_meet_68 : Dc cX0_meet 68 (.getfield 516) 3 71 := ⟨by decide +kernel, rfl⟩
theorem eX0_meet_71 : Dc cX0_meet 71 (.getfield 515) 3 74 := ⟨by decide +kernel, rfl⟩
theorem eX0_meet_74 : Dc cX0_meet 74 (.ishl) 1 75 := ⟨by decide +kernel, rfl⟩
theorem eX0_meet_75 : Dc cX0_meet 75 (.ior) 1 76 := ⟨by decide +kernel, rfl⟩
theorem eX0_meet_76 : Dc cX0_meet 76 (.ior) 1 77 := ⟨by decide +kernel, rfl⟩
theorem eX0_meet_77 : Dc cX0_meet 77 (.iastore) 1 78 := ⟨by decide +kernel, rfl⟩
theorem eX0_meet_78 : Dc cX0_meet 78 (.iinc 3 1) 3 81 := ⟨by decide +kernel, rfl⟩
theorem eX0_meet_81 : Db cX0_meet 81 (fun o => .goto o) 6 84 := ⟨-75, by decide +kernel, by decide, rfl⟩
theorem eX0_meet_84 : Dc cX0_meet 84 (.aload_n 1) 1 85 := ⟨by decide +kernel, rfl⟩
theorem eX0_meet_85 : Dc cX0_meet 85 (.iconst 0) 1 86 := ⟨by decide +kernel, rfl⟩
theorem eX0_meet_86 : Dc cX0_meet 86 (.iaload) 1 87 := ⟨by decide +kernel, rfl⟩
theorem eX0_meet_87 : Dc cX0_meet 87 (.aload_n 1) 1 88 := ⟨by decide +kernel, rfl⟩
theorem eX0_meet_88 : Dc cX0_meet 88 (.iconst 1) 1 89 := ⟨by decide +kernel, rfl⟩
theorem eX0_meet_89 : Dc cX0_meet 89 (.iaload) 1 90 := ⟨by decide +kernel, rfl⟩
theorem eX0_meet_90 : Dc cX0_meet 90 (.iand) 1 91 := ⟨by decide +kernel, rfl⟩
theorem eX0_meet_91 : Dc cX0_meet 91 (.ireturn) 1 92 := ⟨by decide +kernel, rfl⟩
theorem eX0_gauge_0 : Dc cX0_gauge 0 (.aload_n 0) 1 1 := ⟨by decide +kernel, rfl⟩
theorem eX0_gauge_1 : Dc cX0_gauge 1 (.iload_n 1) 1 2 := ⟨by decide +kernel, rfl⟩
theorem eX0_gauge_2 : Dc cX0_gauge 2 (.invokevirtual 517) 3 5 := ⟨by decide +kernel, rfl⟩
theorem eX0_gauge_5 : Db cX0_gauge 5 (fun o => .ifCond .ne o) 11 8 := ⟨6, by decide +kernel, by decide, rfl⟩
theorem eX0_gauge_8 : Dc cX0_gauge 8 (.bipush (-2)) 2 10 := ⟨by decide +kernel, rfl⟩
theorem eX0_gauge_10 : Dc cX0_gauge 10 (.ireturn) 1 11 := ⟨by decide +kernel, rfl⟩
theorem eX0_gauge_11 : Dc cX0_gauge 11 (.new 33) 3 14 := ⟨by decide +kernel, rfl⟩
theorem eX0_gauge_14 : Dc cX0_gauge 14 (.dup) 1 15 := ⟨by decide +kernel, rfl⟩
theorem eX0_gauge_15 : Dc cX0_gauge 15 (.invokespecial 144) 3 18 := ⟨by decide +kernel, rfl⟩
theorem eX0_gauge_18 : Dc cX0_gauge 18 (.astore_n 2) 1 19 := ⟨by decide +kernel, rfl⟩
theorem eX0_gauge_19 : Dc cX0_gauge 19 (.iconst 0) 1 20 := ⟨by decide +kernel, rfl⟩
theorem eX0_gauge_20 : Dc cX0_gauge 20 (.istore 4) 2 22 := ⟨by decide +kernel, rfl⟩
theorem eX0_gauge_22 : Dc cX0_gauge 22 (.iload 4) 2 24 := ⟨by decide +kernel, rfl⟩
theorem eX0_gauge_24 : Dc cX0_gauge 24 (.aload_n 0) 1 25 := ⟨by decide +kernel, rfl⟩
theorem eX0_gauge_25 : Dc cX0_gauge 25 (.getfield 121) 3 28 := ⟨by decide +kernel, rfl⟩
theorem eX0_gauge_28 : Dc cX0_gauge 28 (.invokevirtual 32) 3 31 := ⟨by decide +kernel, rfl⟩
theorem eX0_gauge_31 : Db cX0_gauge 31 (fun o => .if_icmp .ge o) 78 34 := ⟨47, by decide +kernel, by decide, rfl⟩
theorem eX0_gauge_34 : Dc cX0_gauge 34 (.aload_n 0) 1 35 := ⟨by decide +kernel, rfl⟩
theorem eX0_gauge_35 : Dc cX0_gauge 35 (.getfield 121) 3 38 := ⟨by decide +kernel, rfl⟩
theorem eX0_gauge_38 : Dc cX0_gauge 38 (.iload 4) 2 40 := ⟨by decide +kernel, rfl⟩
theorem eX0_gauge_40 : Dc cX0_gauge 40 (.invokevirtual 38) 3 43 := ⟨by decide +kernel, rfl⟩
theorem eX0_gauge_43 : Dc cX0_gauge 43 (.astore 5) 2 45 := ⟨by decide +kernel, rfl⟩
theorem eX0_gauge_45 : Dc cX0_gauge 45 (.aload 5) 2 47 := ⟨by decide +kernel, rfl⟩
theorem eX0_gauge_47 : Dc cX0_gauge 47 (.instanceof 136) 3 50 := ⟨by decide +kernel, rfl⟩
theorem eX0_gauge_50 : Db cX0_gauge 50 (fun o => .ifCond .eq o) 72 53 := ⟨22, by decide +kernel, by decide, rfl⟩
theorem eX0_gauge_53 : Dc cX0_gauge 53 (.aload 5) 2 55 := ⟨by decide +kernel, rfl⟩
theorem eX0_gauge_55 : Dc cX0_gauge 55 (.checkcast 136) 3 58 := ⟨by decide +kernel, rfl⟩
theorem eX0_gauge_58 : Dc cX0_gauge 58 (.astore_n 3) 1 59 := ⟨by decide +kernel, rfl⟩
theorem eX0_gauge_59 : Dc cX0_gauge 59 (.aload_n 3) 1 60 := ⟨by decide +kernel, rfl⟩
theorem eX0_gauge_60 : Dc cX0_gauge 60 (.getfield 344) 3 63 := ⟨by decide +kernel, rfl⟩
theorem eX0_gauge_63 : Db cX0_gauge 63 (fun o => .ifCond .eq o) 72 66 := ⟨9, by decide +kernel, by decide, rfl⟩
theorem eX0_gauge_66 : Dc cX0_gauge 66 (.aload_n 2) 1 67 := ⟨by decide +kernel, rfl⟩
theorem eX0_gauge_67 : Dc cX0_gauge 67 (.aload_n 3) 1 68 := ⟨by decide +kernel, rfl⟩
theorem eX0_gauge_68 : Dc cX0_gauge 68 (.invokevirtual 52) 3 71 := ⟨by decide +kernel, rfl⟩
theorem eX0_gauge_71 : Dc cX0_gauge 71 (.pop) 1 72 := ⟨by decide +kernel, rfl⟩
theorem eX0_gauge_72 : Dc cX0_gauge 72 (.iinc 4 1) 3 75 := ⟨by decide +kernel, rfl⟩
theorem eX0_gauge_75 : Db cX0_gauge 75 (fun o => .goto o) 22 78 := ⟨-53, by decide +kernel, by decide, rfl⟩
theorem eX0_gauge_78 : Dc cX0_gauge 78 (.aload_n 2) 1 79 := ⟨by decide +kernel, rfl⟩
theorem eX0_gauge_79 : Dc cX0_gauge 79 (.invokevirtual 32) 3 82 := ⟨by decide +kernel, rfl⟩
theorem eX0_gauge_82 : Dc cX0_gauge 82 (.bipush 10) 2 84 := ⟨by decide +kernel, rfl⟩
theorem eX0_gauge_84 : Db cX0_gauge 84 (fun o => .if_icmp .le o) 90 87 := ⟨6, by decide +kernel, by decide, rfl⟩
theorem eX0_gauge_87 : Dc cX0_gauge 87 (.bipush (-9)) 2 89 := ⟨by decide +kernel, rfl⟩
theorem eX0_gauge_89 : Dc cX0_gauge 89 (.ireturn) 1 90 := ⟨by decide +kernel, rfl⟩
theorem eX0_gauge_90 : Dc cX0_gauge 90 (.iconst 0) 1 91 := ⟨by decide +kernel, rfl⟩
theorem eX0_gauge_91 : Dc cX0_gauge 91 (.istore_n 3) 1 92 := ⟨by decide +kernel, rfl⟩
theorem eX0_gauge_92 : Dc cX0_gauge 92 (.iconst 0) 1 93 := ⟨by decide +kernel, rfl⟩
theorem eX0_gauge_93 : Dc cX0_gauge 93 (.istore 4) 2 95 := ⟨by decide +kernel, rfl⟩
theorem eX0_gauge_95 : Dc cX0_gauge 95 (.iload 4) 2 97 := ⟨by decide +kernel, rfl⟩
theorem eX0_gauge_97 : Dc cX0_gauge 97 (.aload_n 2) 1 98 := ⟨by decide +kernel, rfl⟩
theorem eX0_gauge_98 : Dc cX0_gauge 98 (.invokevirtual 32) 3 101 := ⟨by decide +kernel, rfl⟩
theorem eX0_gauge_101 : Db cX0_gauge 101 (fun o => .if_icmp .ge o) 128 104 := ⟨27, by decide +kernel, by decide, rfl⟩
theorem eX0_gauge_104 : Dc cX0_gauge 104 (.iload_n 3) 1 105 := ⟨by decide +kernel, rfl⟩
theorem eX0_gauge_105 : Dc cX0_gauge 105 (.aload_n 2) 1 106 := ⟨by decide +kernel, rfl⟩
theorem eX0_gauge_106 : Dc cX0_gauge 106 (.iload 4) 2 108 := ⟨by decide +kernel, rfl⟩
theorem eX0_gauge_108 : Dc cX0_gauge 108 (.invokevirtual 38) 3 111 := ⟨by decide +kernel, rfl⟩
theorem eX0_gauge_111 : Dc cX0_gauge 111 (.checkcast 136) 3 114 := ⟨by decide +kernel, rfl⟩
theorem eX0_gauge_114 : Dc cX0_gauge 114 (.getfield 513) 3 117 := ⟨by decide +kernel, rfl⟩
theorem eX0_gauge_117 : Dc cX0_gauge 117 (.iload 4) 2 119 := ⟨by decide +kernel, rfl⟩
theorem eX0_gauge_119 : Dc cX0_gauge 119 (.ishl) 1 120 := ⟨by decide +kernel, rfl⟩
theorem eX0_gauge_120 : Dc cX0_gauge 120 (.ior) 1 121 := ⟨by decide +kernel, rfl⟩
theorem eX0_gauge_121 : Dc cX0_gauge 121 (.istore_n 3) 1 122 := ⟨by decide +kernel, rfl⟩
theorem eX0_gauge_122 : Dc cX0_gauge 122 (.iinc 4 1) 3 125 := ⟨by decide +kernel, rfl⟩
theorem eX0_gauge_125 : Db cX0_gauge 125 (fun o => .goto o) 95 128 := ⟨-30, by decide +kernel, by decide, rfl⟩
theorem eX0_gauge_128 : Dc cX0_gauge 128 (.iconst 1) 1 129 := ⟨by decide +kernel, rfl⟩
theorem eX0_gauge_129 : Dc cX0_gauge 129 (.aload_n 2) 1 130 := ⟨by decide +kernel, rfl⟩
theorem eX0_gauge_130 : Dc cX0_gauge 130 (.invokevirtual 32) 3 133 := ⟨by decide +kernel, rfl⟩
theorem eX0_gauge_133 : Dc cX0_gauge 133 (.ishl) 1 134 := ⟨by decide +kernel, rfl⟩
theorem eX0_gauge_134 : Dc cX0_gauge 134 (.iconst 1) 1 135 := ⟨by decide +kernel, rfl⟩
theorem eX0_gauge_135 : Dc cX0_gauge 135 (.isub) 1 136 := ⟨by decide +kernel, rfl⟩
theorem eX0_gauge_136 : Dc cX0_gauge 136 (.istore 4) 2 138 := ⟨by decide +kernel, rfl⟩
theorem eX0_gauge_138 : Dc cX0_gauge 138 (.bipush (-5)) 2 140 := ⟨by decide +kernel, rfl⟩
theorem eX0_gauge_140 : Dc cX0_gauge 140 (.istore 5) 2 142 := ⟨by decide +kernel, rfl⟩
theorem eX0_gauge_142 : Dc cX0_gauge 142 (.iconst 0) 1 143 := ⟨by decide +kernel, rfl⟩
theorem eX0_gauge_143 : Dc cX0_gauge 143 (.istore 6) 2 145 := ⟨by decide +kernel, rfl⟩
theorem eX0_gauge_145 : Dc cX0_gauge 145 (.iload 6) 2 147 := ⟨by decide +kernel, rfl⟩
theorem eX0_gauge_147 : Dc cX0_gauge 147 (.iload 4) 2 149 := ⟨by decide +kernel, rfl⟩
theorem eX0_gauge_149 : Db cX0_gauge 149 (fun o => .if_icmp .gt o) 216 152 := ⟨67, by decide +kernel, by decide, rfl⟩
theorem eX0_gauge_152 : Dc cX0_gauge 152 (.iload 5) 2 154 := ⟨by decide +kernel, rfl⟩
theorem eX0_gauge_154 : Dc cX0_gauge 154 (.bipush (-5)) 2 156 := ⟨by decide +kernel, rfl⟩
theorem eX0_gauge_156 : Db cX0_gauge 156 (fun o => .if_icmp .eq o) 175 159 := ⟨19, by decide +kernel, by decide, rfl⟩
theorem eX0_gauge_159 : Dc cX0_gauge 159 (.iload 6) 2 161 := ⟨by decide +kernel, rfl⟩
theorem eX0_gauge_161 : Dc cX0_gauge 161 (.invokestatic 520) 3 164 := ⟨by decide +kernel, rfl⟩
theorem eX0_gauge_164 : Dc cX0_gauge 164 (.iload 5) 2 166 := ⟨by decide +kernel, rfl⟩
theorem eX0_gauge_166 : Dc cX0_gauge 166 (.invokestatic 520) 3 169 := ⟨by decide +kernel, rfl⟩
theorem eX0_gauge_169 : Db cX0_gauge 169 (fun o => .if_icmp .lt o) 175 172 := ⟨6, by decide +kernel, by decide, rfl⟩
theorem eX0_gauge_172 : Db cX0_gauge 172 (fun o => .goto o) 210 175 := ⟨38, by decide +kernel, by decide, rfl⟩
theorem eX0_gauge_175 : Dc cX0_gauge 175 (.aload_n 0) 1 176 := ⟨by decide +kernel, rfl⟩
theorem eX0_gauge_176 : Dc cX0_gauge 176 (.iload_n 1) 1 177 := ⟨by decide +kernel, rfl⟩
theorem eX0_gauge_177 : Dc cX0_gauge 177 (.aload_n 2) 1 178 := ⟨by decide +kernel, rfl⟩
theorem eX0_gauge_178 : Dc cX0_gauge 178 (.iload_n 3) 1 179 := ⟨by decide +kernel, rfl⟩
theorem eX0_gauge_179 : Dc cX0_gauge 179 (.iload 6) 2 181 := ⟨by decide +kernel, rfl⟩
theorem eX0_gauge_181 : Dc cX0_gauge 181 (.ixor) 1 182 := ⟨by decide +kernel, rfl⟩
theorem eX0_gauge_182 : Dc cX0_gauge 182 (.invokevirtual 525) 3 185 := ⟨by decide +kernel, rfl⟩
theorem eX0_gauge_185 : Db cX0_gauge 185 (fun o => .ifCond .ne o) 206 188 := ⟨21, by decide +kernel, by decide, rfl⟩
theorem eX0_gauge_188 : Dc cX0_gauge 188 (.aload_n 0) 1 189 := ⟨by decide +kernel, rfl⟩
theorem eX0_gauge_189 : Dc cX0_gauge 189 (.iload_n 1) 1 190 := ⟨by decide +kernel, rfl⟩
theorem eX0_gauge_190 : Dc cX0_gauge 190 (.aload_n 2) 1 191 := ⟨by decide +kernel, rfl⟩
theorem eX0_gauge_191 : Dc cX0_gauge 191 (.iload_n 3) 1 192 := ⟨by decide +kernel, rfl⟩
theorem eX0_gauge_192 : Dc cX0_gauge 192 (.iload 6) 2 194 := ⟨by decide +kernel, rfl⟩
theorem eX0_gauge_194 : Dc cX0_gauge 194 (.ixor) 1 195 := ⟨by decide +kernel, rfl⟩
theorem eX0_gauge_195 : Dc cX0_gauge 195 (.iconst (-1)) 1 196 := ⟨by decide +kernel, rfl⟩
theorem eX0_gauge_196 : Dc cX0_gauge 196 (.ixor) 1 197 := ⟨by decide +kernel, rfl⟩
theorem eX0_gauge_197 : Dc cX0_gauge 197 (.iload 4) 2 199 := ⟨by decide +kernel, rfl⟩
theorem eX0_gauge_199 : Dc cX0_gauge 199 (.iand) 1 200 := ⟨by decide +kernel, rfl⟩
theorem eX0_gauge_200 : Dc cX0_gauge 200 (.invokevirtual 525) 3 203 := ⟨by decide +kernel, rfl⟩
theorem eX0_gauge_203 : Db cX0_gauge 203 (fun o => .ifCond .eq o) 210 206 := ⟨7, by decide +kernel, by decide, rfl⟩
theorem eX0_gauge_206 : Dc cX0_gauge 206 (.iload 6) 2 208 := ⟨by decide +kernel, rfl⟩
theorem eX0_gauge_208 : Dc cX0_gauge 208 (.istore 5) 2 210 := ⟨by decide +kernel, rfl⟩
theorem eX0_gauge_210 : Dc cX0_gauge 210 (.iinc 6 1) 3 213 := ⟨by decide +kernel, rfl⟩
theorem eX0_gauge_213 : Db cX0_gauge 213 (fun o => .goto o) 145 216 := ⟨-68, by decide +kernel, by decide, rfl⟩
theorem eX0_gauge_216 : Dc cX0_gauge 216 (.iload 5) 2 218 := ⟨by decide +kernel, rfl⟩
theorem eX0_gauge_218 : Dc cX0_gauge 218 (.ireturn) 1 219 := ⟨by decide +kernel, rfl⟩
theorem eX0_areTowns_0 : Dc cX0_areTowns 0 (.iload_n 1) 1 1 := ⟨by decide +kernel, rfl⟩
theorem eX0_areTowns_1 : Dc cX0_areTowns 1 (.iconst 0) 1 2 := ⟨by decide +kernel, rfl⟩
theorem eX0_areTowns_2 : Dc cX0_areTowns 2 (.iconst 1) 1 3 := ⟨by decide +kernel, rfl⟩
theorem eX0_areTowns_3 : Dc cX0_areTowns 3 (.aload_n 0) 1 4 := ⟨by decide +kernel, rfl⟩
theorem eX0_areTowns_4 : Dc cX0_areTowns 4 (.getfield 28) 3 7 := ⟨by decide +kernel, rfl⟩
theorem eX0_areTowns_7 : Dc cX0_areTowns 7 (.invokevirtual 32) 3 10 := ⟨by decide +kernel, rfl⟩
theorem eX0_areTowns_10 : Dc cX0_areTowns 10 (.ishl) 1 11 := ⟨by decide +kernel, rfl⟩
theorem eX0_areTowns_11 : Dc cX0_areTowns 11 (.iconst 1) 1 12 := ⟨by decide +kernel, rfl⟩
theorem eX0_areTowns_12 : Dc cX0_areTowns 12 (.isub) 1 13 := ⟨by decide +kernel, rfl⟩
theorem eX0_areTowns_13 : Dc cX0_areTowns 13 (.invokestatic 3) 3 16 := ⟨by decide +kernel, rfl⟩
theorem eX0_areTowns_16 : Dc cX0_areTowns 16 (.ireturn) 1 17 := ⟨by decide +kernel, rfl⟩
theorem eX0_join_0 : Dc cX0_join 0 (.iload_n 1) 1 1 := ⟨by decide +kernel, rfl⟩
theorem eX0_join_1 : Dc cX0_join 1 (.iload_n 1) 1 2 := ⟨by decide +kernel, rfl⟩
theorem eX0_join_2 : Dc cX0_join 2 (.iconst 1) 1 3 := ⟨by decide +kernel, rfl⟩
theorem eX0_join_3 : Dc cX0_join 3 (.isub) 1 4 := ⟨by decide +kernel, rfl⟩
theorem eX0_join_4 : Dc cX0_join 4 (.iand) 1 5 := ⟨by decide +kernel, rfl⟩
theorem eX0_join_5 : Db cX0_join 5 (fun o => .ifCond .ne o) 10 8 := ⟨5, by decide +kernel, by decide, rfl⟩
theorem eX0_join_8 : Dc cX0_join 8 (.iconst 1) 1 9 := ⟨by decide +kernel, rfl⟩
theorem eX0_join_9 : Dc cX0_join 9 (.ireturn) 1 10 := ⟨by decide +kernel, rfl⟩
theorem eX0_join_10 : Dc cX0_join 10 (.iload_n 1) 1 11 := ⟨by decide +kernel, rfl⟩
theorem eX0_join_11 : Dc cX0_join 11 (.iload_n 1) 1 12 := ⟨by decide +kernel, rfl⟩
theorem eX0_join_12 : Dc cX0_join 12 (.ineg) 1 13 := ⟨by decide +kernel, rfl⟩
theorem eX0_join_13 : Dc cX0_join 13 (.iand) 1 14 := ⟨by decide +kernel, rfl⟩
theorem eX0_join_14 : Dc cX0_join 14 (.istore 4) 2 16 := ⟨by decide +kernel, rfl⟩
theorem eX0_join_16 : Dc cX0_join 16 (.iconst 0) 1 17 := ⟨by decide +kernel, rfl⟩
theorem eX0_join_17 : Dc cX0_join 17 (.istore 5) 2 19 := ⟨by decide +kernel, rfl⟩
theorem eX0_join_19 : Dc cX0_join 19 (.iload 5) 2 21 := ⟨by decide +kernel, rfl⟩
theorem eX0_join_21 : Dc cX0_join 21 (.bipush 6) 2 23 := ⟨by decide +kernel, rfl⟩
theorem eX0_join_23 : Db cX0_join 23 (fun o => .if_icmp .ge o) 112 26 := ⟨89, by decide +kernel, by decide, rfl⟩
theorem eX0_join_26 : Dc cX0_join 26 (.iconst 0) 1 27 := ⟨by decide +kernel, rfl⟩
theorem eX0_join_27 : Dc cX0_join 27 (.istore 6) 2 29 := ⟨by decide +kernel, rfl⟩
theorem eX0_join_29 : Dc cX0_join 29 (.iload 6) 2 31 := ⟨by decide +kernel, rfl⟩
theorem eX0_join_31 : Dc cX0_join 31 (.aload_n 2) 1 32 := ⟨by decide +kernel, rfl⟩
theorem eX0_join_32 : Dc cX0_join 32 (.invokevirtual 32) 3 35 := ⟨by decide +kernel, rfl⟩
theorem eX0_join_35 : Db cX0_join 35 (fun o => .if_icmp .ge o) 106 38 := ⟨71, by decide +kernel, by decide, rfl⟩
theorem eX0_join_38 : Dc cX0_join 38 (.iconst 1) 1 39 := ⟨by decide +kernel, rfl⟩
theorem eX0_join_39 : Dc cX0_join 39 (.aload_n 2) 1 40 := ⟨by decide +kernel, rfl⟩
theorem eX0_join_40 : Dc cX0_join 40 (.iload 6) 2 42 := ⟨by decide +kernel, rfl⟩
theorem eX0_join_42 : Dc cX0_join 42 (.invokevirtual 38) 3 45 := ⟨by decide +kernel, rfl⟩
theorem eX0_join_45 : Dc cX0_join 45 (.checkcast 136) 3 48 := ⟨by decide +kernel, rfl⟩
theorem eX0_join_48 : Dc cX0_join 48 (.getfield 514) 3 51 := ⟨by decide +kernel, rfl⟩
theorem eX0_join_51 : Dc cX0_join 51 (.getfield 515) 3 54 := ⟨by decide +kernel, rfl⟩
theorem eX0_join_54 : Dc cX0_join 54 (.ishl) 1 55 := ⟨by decide +kernel, rfl⟩
theorem eX0_join_55 : Dc cX0_join 55 (.iconst 1) 1 56 := ⟨by decide +kernel, rfl⟩
theorem eX0_join_56 : Dc cX0_join 56 (.aload_n 2) 1 57 := ⟨by decide +kernel, rfl⟩
theorem eX0_join_57 : Dc cX0_join 57 (.iload 6) 2 59 := ⟨by decide +kernel, rfl⟩
theorem eX0_join_59 : Dc cX0_join 59 (.invokevirtual 38) 3 62 := ⟨by decide +kernel, rfl⟩
theorem eX0_join_62 : Dc cX0_join 62 (.checkcast 136) 3 65 := ⟨by decide +kernel, rfl⟩
theorem eX0_join_65 : Dc cX0_join 65 (.getfield 516) 3 68 := ⟨by decide +kernel, rfl⟩
theorem eX0_join_68 : Dc cX0_join 68 (.getfield 515) 3 71 := ⟨by decide +kernel, rfl⟩
theorem eX0_join_71 : Dc cX0_join 71 (.ishl) 1 72 := ⟨by decide +kernel, rfl⟩
theorem eX0_join_72 : Dc cX0_join 72 (.ior) 1 73 := ⟨by decide +kernel, rfl⟩
theorem eX0_join_73 : Dc cX0_join 73 (.istore 7) 2 75 := ⟨by decide +kernel, rfl⟩
theorem eX0_join_75 : Dc cX0_join 75 (.iload_n 3) 1 76 := ⟨by decide +kernel, rfl⟩
theorem eX0_join_76 : Dc cX0_join 76 (.iload 6) 2 78 := ⟨by decide +kernel, rfl⟩
theorem eX0_join_78 : Dc cX0_join 78 (.ishr) 1 79 := ⟨by decide +kernel, rfl⟩
theorem eX0_join_79 : Dc cX0_join 79 (.iconst 1) 1 80 := ⟨by decide +kernel, rfl⟩
theorem eX0_join_80 : Dc cX0_join 80 (.iand) 1 81 := ⟨by decide +kernel, rfl⟩
theorem eX0_join_81 : Dc cX0_join 81 (.iconst 1) 1 82 := ⟨by decide +kernel, rfl⟩
theorem eX0_join_82 : Db cX0_join 82 (fun o => .if_icmp .ne o) 100 85 := ⟨18, by decide +kernel, by decide, rfl⟩
theorem eX0_join_85 : Dc cX0_join 85 (.iload 7) 2 87 := ⟨by decide +kernel, rfl⟩
theorem eX0_join_87 : Dc cX0_join 87 (.iload 4) 2 89 := ⟨by decide +kernel, rfl⟩
theorem eX0_join_89 : Dc cX0_join 89 (.iand) 1 90 := ⟨by decide +kernel, rfl⟩
theorem eX0_join_90 : Db cX0_join 90 (fun o => .ifCond .eq o) 100 93 := ⟨10, by decide +kernel, by decide, rfl⟩
theorem eX0_join_93 : Dc cX0_join 93 (.iload 4) 2 95 := ⟨by decide +kernel, rfl⟩
theorem eX0_join_95 : Dc cX0_join 95 (.iload 7) 2 97 := ⟨by decide +kernel, rfl⟩
theorem eX0_join_97 : Dc cX0_join 97 (.ior) 1 98 := ⟨by decide +kernel, rfl⟩
theorem eX0_join_98 : Dc cX0_join 98 (.istore 4) 2 100 := ⟨by decide +kernel, rfl⟩
theorem eX0_join_100 : Dc cX0_join 100 (.iinc 6 1) 3 103 := ⟨by decide +kernel, rfl⟩
theorem eX0_join_103 : Db cX0_join 103 (fun o => .goto o) 29 106 := ⟨-74, by decide +kernel, by decide, rfl⟩
theorem eX0_join_106 : Dc cX0_join 106 (.iinc 5 1) 3 109 := ⟨by decide +kernel, rfl⟩
theorem eX0_join_109 : Db cX0_join 109 (fun o => .goto o) 19 112 := ⟨-90, by decide +kernel, by decide, rfl⟩
theorem eX0_join_112 : Dc cX0_join 112 (.iload_n 1) 1 113 := ⟨by decide +kernel, rfl⟩
theorem eX0_join_113 : Dc cX0_join 113 (.iload 4) 2 115 := ⟨by decide +kernel, rfl⟩
theorem eX0_join_115 : Dc cX0_join 115 (.iconst (-1)) 1 116 := ⟨by decide +kernel, rfl⟩
theorem eX0_join_116 : Dc cX0_join 116 (.ixor) 1 117 := ⟨by decide +kernel, rfl⟩
theorem eX0_join_117 : Dc cX0_join 117 (.iand) 1 118 := ⟨by decide +kernel, rfl⟩
theorem eX0_join_118 : Db cX0_join 118 (fun o => .ifCond .ne o) 125 121 := ⟨7, by decide +kernel, by decide, rfl⟩
theorem eX0_join_121 : Dc cX0_join 121 (.iconst 1) 1 122 := ⟨by decide +kernel, rfl⟩
theorem eX0_join_122 : Db cX0_join 122 (fun o => .goto o) 126 125 := ⟨4, by decide +kernel, by decide, rfl⟩
theorem eX0_join_125 : Dc cX0_join 125 (.iconst 0) 1 126 := ⟨by decide +kernel, rfl⟩
theorem eX0_join_126 : Dc cX0_join 126 (.ireturn) 1 127 := ⟨by decide +kernel, rfl⟩
theorem eX0_plan_0 : Dc cX0_plan 0 (.iload 4) 2 2 := ⟨by decide +kernel, rfl⟩
theorem eX0_plan_2 : Dc cX0_plan 2 (.iconst 0) 1 3 := ⟨by decide +kernel, rfl⟩
theorem eX0_plan_3 : Dc cX0_plan 3 (.iconst 1) 1 4 := ⟨by decide +kernel, rfl⟩
theorem eX0_plan_4 : Dc cX0_plan 4 (.invokestatic 3) 3 7 := ⟨by decide +kernel, rfl⟩
theorem eX0_plan_7 : Db cX0_plan 7 (fun o => .ifCond .ne o) 12 10 := ⟨5, by decide +kernel, by decide, rfl⟩
theorem eX0_plan_10 : Dc cX0_plan 10 (.iconst (-1)) 1 11 := ⟨by decide +kernel, rfl⟩
theorem eX0_plan_11 : Dc cX0_plan 11 (.ireturn) 1 12 := ⟨by decide +kernel, rfl⟩
theorem eX0_plan_12 : Dc cX0_plan 12 (.aload_n 0) 1 13 := ⟨by decide +kernel, rfl⟩
theorem eX0_plan_13 : Dc cX0_plan 13 (.iload_n 1) 1 14 := ⟨by decide +kernel, rfl⟩
theorem eX0_plan_14 : Dc cX0_plan 14 (.invokevirtual 517) 3 17 := ⟨by decide +kernel, rfl⟩
theorem eX0_plan_17 : Db cX0_plan 17 (fun o => .ifCond .eq o) 41 20 := ⟨24, by decide +kernel, by decide, rfl⟩
theorem eX0_plan_20 : Dc cX0_plan 20 (.iload_n 2) 1 21 := ⟨by decide +kernel, rfl⟩
theorem eX0_plan_21 : Dc cX0_plan 21 (.iconst 0) 1 22 := ⟨by decide +kernel, rfl⟩
theorem eX0_plan_22 : Dc cX0_plan 22 (.ldc 59) 2 24 := ⟨by decide +kernel, rfl⟩
theorem eX0_plan_24 : Dc cX0_plan 24 (.invokestatic 3) 3 27 := ⟨by decide +kernel, rfl⟩
theorem eX0_plan_27 : Db cX0_plan 27 (fun o => .ifCond .eq o) 41 30 := ⟨14, by decide +kernel, by decide, rfl⟩
theorem eX0_plan_30 : Dc cX0_plan 30 (.iload_n 3) 1 31 := ⟨by decide +kernel, rfl⟩
theorem eX0_plan_31 : Dc cX0_plan 31 (.iconst 0) 1 32 := ⟨by decide +kernel, rfl⟩
theorem eX0_plan_32 : Dc cX0_plan 32 (.ldc_w 530) 3 35 := ⟨by decide +kernel, rfl⟩
theorem eX0_plan_35 : Dc cX0_plan 35 (.invokestatic 3) 3 38 := ⟨by decide +kernel, rfl⟩
theorem eX0_plan_38 : Db cX0_plan 38 (fun o => .ifCond .ne o) 44 41 := ⟨6, by decide +kernel, by decide, rfl⟩
theorem eX0_plan_41 : Dc cX0_plan 41 (.bipush (-2)) 2 43 := ⟨by decide +kernel, rfl⟩
theorem eX0_plan_43 : Dc cX0_plan 43 (.ireturn) 1 44 := ⟨by decide +kernel, rfl⟩
theorem eX0_plan_44 : Dc cX0_plan 44 (.new 33) 3 47 := ⟨by decide +kernel, rfl⟩
theorem eX0_plan_47 : Dc cX0_plan 47 (.dup) 1 48 := ⟨by decide +kernel, rfl⟩
theorem eX0_plan_48 : Dc cX0_plan 48 (.invokespecial 144) 3 51 := ⟨by decide +kernel, rfl⟩
theorem eX0_plan_51 : Dc cX0_plan 51 (.astore 5) 2 53 := ⟨by decide +kernel, rfl⟩
theorem eX0_plan_53 : Dc cX0_plan 53 (.iconst 0) 1 54 := ⟨by decide +kernel, rfl⟩
theorem eX0_plan_54 : Dc cX0_plan 54 (.istore 7) 2 56 := ⟨by decide +kernel, rfl⟩
theorem eX0_plan_56 : Dc cX0_plan 56 (.iload 7) 2 58 := ⟨by decide +kernel, rfl⟩
theorem eX0_plan_58 : Dc cX0_plan 58 (.aload_n 0) 1 59 := ⟨by decide +kernel, rfl⟩
theorem eX0_plan_59 : Dc cX0_plan 59 (.getfield 121) 3 62 := ⟨by decide +kernel, rfl⟩
theorem eX0_plan_62 : Dc cX0_plan 62 (.invokevirtual 32) 3 65 := ⟨by decide +kernel, rfl⟩
theorem eX0_plan_65 : Db cX0_plan 65 (fun o => .if_icmp .ge o) 139 68 := ⟨74, by decide +kernel, by decide, rfl⟩
theorem eX0_plan_68 : Dc cX0_plan 68 (.aload 5) 2 70 := ⟨by decide +kernel, rfl⟩
theorem eX0_plan_70 : Dc cX0_plan 70 (.invokevirtual 32) 3 73 := ⟨by decide +kernel, rfl⟩
theorem eX0_plan_73 : Dc cX0_plan 73 (.bipush 8) 2 75 := ⟨by decide +kernel, rfl⟩
theorem eX0_plan_75 : Db cX0_plan 75 (fun o => .if_icmp .ge o) 139 78 := ⟨64, by decide +kernel, by decide, rfl⟩
theorem eX0_plan_78 : Dc cX0_plan 78 (.aload_n 0) 1 79 := ⟨by decide +kernel, rfl⟩
theorem eX0_plan_79 : Dc cX0_plan 79 (.getfield 121) 3 82 := ⟨by decide +kernel, rfl⟩
theorem eX0_plan_82 : Dc cX0_plan 82 (.iload 7) 2 84 := ⟨by decide +kernel, rfl⟩
theorem eX0_plan_84 : Dc cX0_plan 84 (.invokevirtual 38) 3 87 := ⟨by decide +kernel, rfl⟩
theorem eX0_plan_87 : Dc cX0_plan 87 (.astore 8) 2 89 := ⟨by decide +kernel, rfl⟩
theorem eX0_plan_89 : Dc cX0_plan 89 (.aload 8) 2 91 := ⟨by decide +kernel, rfl⟩
theorem eX0_plan_91 : Dc cX0_plan 91 (.instanceof 136) 3 94 := ⟨by decide +kernel, rfl⟩
theorem eX0_plan_94 : Db cX0_plan 94 (fun o => .ifCond .eq o) 133 97 := ⟨39, by decide +kernel, by decide, rfl⟩
theorem eX0_plan_97 : Dc cX0_plan 97 (.aload 8) 2 99 := ⟨by decide +kernel, rfl⟩
theorem eX0_plan_99 : Dc cX0_plan 99 (.checkcast 136) 3 102 := ⟨by decide +kernel, rfl⟩
theorem eX0_plan_102 : Dc cX0_plan 102 (.astore 6) 2 104 := ⟨by decide +kernel, rfl⟩
theorem eX0_plan_104 : Dc cX0_plan 104 (.aload 6) 2 106 := ⟨by decide +kernel, rfl⟩
theorem eX0_plan_106 : Dc cX0_plan 106 (.getfield 344) 3 109 := ⟨by decide +kernel, rfl⟩
theorem eX0_plan_109 : Db cX0_plan 109 (fun o => .ifCond .ne o) 133 112 := ⟨24, by decide +kernel, by decide, rfl⟩
theorem eX0_plan_112 : Dc cX0_plan 112 (.aload_n 0) 1 113 := ⟨by decide +kernel, rfl⟩
theorem eX0_plan_113 : Dc cX0_plan 113 (.aload 6) 2 115 := ⟨by decide +kernel, rfl⟩
theorem eX0_plan_115 : Dc cX0_plan 115 (.aload_n 0) 1 116 := ⟨by decide +kernel, rfl⟩
theorem eX0_plan_116 : Dc cX0_plan 116 (.getfield 194) 3 119 := ⟨by decide +kernel, rfl⟩
theorem eX0_plan_119 : Dc cX0_plan 119 (.invokevirtual 336) 3 122 := ⟨by decide +kernel, rfl⟩
theorem eX0_plan_122 : Db cX0_plan 122 (fun o => .ifCond .eq o) 133 125 := ⟨11, by decide +kernel, by decide, rfl⟩
theorem eX0_plan_125 : Dc cX0_plan 125 (.aload 5) 2 127 := ⟨by decide +kernel, rfl⟩
theorem eX0_plan_127 : Dc cX0_plan 127 (.aload 6) 2 129 := ⟨by decide +kernel, rfl⟩
theorem eX0_plan_129 : Dc cX0_plan 129 (.invokevirtual 52) 3 132 := ⟨by decide +kernel, rfl⟩
theorem eX0_plan_132 : Dc cX0_plan 132 (.pop) 1 133 := ⟨by decide +kernel, rfl⟩
theorem eX0_plan_133 : Dc cX0_plan 133 (.iinc 7 1) 3 136 := ⟨by decide +kernel, rfl⟩
theorem eX0_plan_136 : Db cX0_plan 136 (fun o => .goto o) 56 139 := ⟨-80, by decide +kernel, by decide, rfl⟩
theorem eX0_plan_139 : Dc cX0_plan 139 (.aload 5) 2 141 := ⟨by decide +kernel, rfl⟩
theorem eX0_plan_141 : Dc cX0_plan 141 (.invokevirtual 32) 3 144 := ⟨by decide +kernel, rfl⟩
theorem eX0_plan_144 : Dc cX0_plan 144 (.newarray .long) 2 146 := ⟨by decide +kernel, rfl⟩
theorem eX0_plan_146 : Dc cX0_plan 146 (.astore 6) 2 148 := ⟨by decide +kernel, rfl⟩
theorem eX0_plan_148 : Dc cX0_plan 148 (.aload 5) 2 150 := ⟨by decide +kernel, rfl⟩
theorem eX0_plan_150 : Dc cX0_plan 150 (.invokevirtual 32) 3 153 := ⟨by decide +kernel, rfl⟩
theorem eX0_plan_153 : Dc cX0_plan 153 (.newarray .long) 2 155 := ⟨by decide +kernel, rfl⟩
theorem eX0_plan_155 : Dc cX0_plan 155 (.astore 7) 2 157 := ⟨by decide +kernel, rfl⟩
theorem eX0_plan_157 : Dc cX0_plan 157 (.iconst 0) 1 158 := ⟨by decide +kernel, rfl⟩
theorem eX0_plan_158 : Dc cX0_plan 158 (.istore 8) 2 160 := ⟨by decide +kernel, rfl⟩
theorem eX0_plan_160 : Dc cX0_plan 160 (.iload 8) 2 162 := ⟨by decide +kernel, rfl⟩
theorem eX0_plan_162 : Dc cX0_plan 162 (.aload 5) 2 164 := ⟨by decide +kernel, rfl⟩
theorem eX0_plan_164 : Dc cX0_plan 164 (.invokevirtual 32) 3 167 := ⟨by decide +kernel, rfl⟩
theorem eX0_plan_167 : Db cX0_plan 167 (fun o => .if_icmp .ge o) 232 170 := ⟨65, by decide +kernel, by decide, rfl⟩
theorem eX0_plan_170 : Dc cX0_plan 170 (.aload 6) 2 172 := ⟨by decide +kernel, rfl⟩
theorem eX0_plan_172 : Dc cX0_plan 172 (.iload 8) 2 174 := ⟨by decide +kernel, rfl⟩
theorem eX0_plan_174 : Dc cX0_plan 174 (.aload_n 0) 1 175 := ⟨by decide +kernel, rfl⟩
theorem eX0_plan_175 : Dc cX0_plan 175 (.aload 5) 2 177 := ⟨by decide +kernel, rfl⟩
theorem eX0_plan_177 : Dc cX0_plan 177 (.iload 8) 2 179 := ⟨by decide +kernel, rfl⟩
theorem eX0_plan_179 : Dc cX0_plan 179 (.invokevirtual 38) 3 182 := ⟨by decide +kernel, rfl⟩
theorem eX0_plan_182 : Dc cX0_plan 182 (.checkcast 136) 3 185 := ⟨by decide +kernel, rfl⟩
theorem eX0_plan_185 : Dc cX0_plan 185 (.getfield 303) 3 188 := ⟨by decide +kernel, rfl⟩
theorem eX0_plan_188 : Dc cX0_plan 188 (.invokevirtual 273) 3 191 := ⟨by decide +kernel, rfl⟩
theorem eX0_plan_191 : Dc cX0_plan 191 (.i2l) 1 192 := ⟨by decide +kernel, rfl⟩
theorem eX0_plan_192 : Dc cX0_plan 192 (.lastore) 1 193 := ⟨by decide +kernel, rfl⟩
theorem eX0_plan_193 : Dc cX0_plan 193 (.aload 7) 2 195 := ⟨by decide +kernel, rfl⟩
theorem eX0_plan_195 : Dc cX0_plan 195 (.iload 8) 2 197 := ⟨by decide +kernel, rfl⟩
theorem eX0_plan_197 : Dc cX0_plan 197 (.ldc2_w 498) 3 200 := ⟨by decide +kernel, rfl⟩
theorem eX0_plan_200 : Dc cX0_plan 200 (.aload 6) 2 202 := ⟨by decide +kernel, rfl⟩
theorem eX0_plan_202 : Dc cX0_plan 202 (.iload 8) 2 204 := ⟨by decide +kernel, rfl⟩
theorem eX0_plan_204 : Dc cX0_plan 204 (.laload) 1 205 := ⟨by decide +kernel, rfl⟩
theorem eX0_plan_205 : Dc cX0_plan 205 (.lmul) 1 206 := ⟨by decide +kernel, rfl⟩
theorem eX0_plan_206 : Dc cX0_plan 206 (.aload_n 0) 1 207 := ⟨by decide +kernel, rfl⟩
theorem eX0_plan_207 : Dc cX0_plan 207 (.aload 5) 2 209 := ⟨by decide +kernel, rfl⟩
theorem eX0_plan_209 : Dc cX0_plan 209 (.iload 8) 2 211 := ⟨by decide +kernel, rfl⟩
theorem eX0_plan_211 : Dc cX0_plan 211 (.invokevirtual 38) 3 214 := ⟨by decide +kernel, rfl⟩
theorem eX0_plan_214 : Dc cX0_plan 214 (.checkcast 136) 3 217 := ⟨by decide +kernel, rfl⟩
theorem eX0_plan_217 : Dc cX0_plan 217 (.getfield 303) 3 220 := ⟨by decide +kernel, rfl⟩
theorem eX0_plan_220 : Dc cX0_plan 220 (.invokevirtual 317) 3 223 := ⟨by decide +kernel, rfl⟩
theorem eX0_plan_223 : Dc cX0_plan 223 (.i2l) 1 224 := ⟨by decide +kernel, rfl⟩
theorem eX0_plan_224 : Dc cX0_plan 224 (.ladd) 1 225 := ⟨by decide +kernel, rfl⟩
theorem eX0_plan_225 : Dc cX0_plan 225 (.lastore) 1 226 := ⟨by decide +kernel, rfl⟩
theorem eX0_plan_226 : Dc cX0_plan 226 (.iinc 8 1) 3 229 := ⟨by decide +kernel, rfl⟩
theorem eX0_plan_229 : Db cX0_plan 229 (fun o => .goto o) 160 232 := ⟨-69, by decide +kernel, by decide, rfl⟩
theorem eX0_plan_232 : Dc cX0_plan 232 (.bipush (-5)) 2 234 := ⟨by decide +kernel, rfl⟩
theorem eX0_plan_234 : Dc cX0_plan 234 (.istore 8) 2 236 := ⟨by decide +kernel, rfl⟩
theorem eX0_plan_236 : Dc cX0_plan 236 (.lconst 0) 1 237 := ⟨by decide +kernel, rfl⟩
theorem eX0_plan_237 : Dc cX0_plan 237 (.lstore 9) 2 239 := ⟨by decide +kernel, rfl⟩
theorem eX0_plan_239 : Dc cX0_plan 239 (.iconst 0) 1 240 := ⟨by decide +kernel, rfl⟩
theorem eX0_plan_240 : Dc cX0_plan 240 (.istore 11) 2 242 := ⟨by decide +kernel, rfl⟩
theorem eX0_plan_242 : Dc cX0_plan 242 (.iload 11) 2 244 := ⟨by decide +kernel, rfl⟩
theorem eX0_plan_244 : Dc cX0_plan 244 (.iconst 1) 1 245 := ⟨by decide +kernel, rfl⟩
theorem eX0_plan_245 : Dc cX0_plan 245 (.aload 5) 2 247 := ⟨by decide +kernel, rfl⟩
theorem eX0_plan_247 : Dc cX0_plan 247 (.invokevirtual 32) 3 250 := ⟨by decide +kernel, rfl⟩
theorem eX0_plan_250 : Dc cX0_plan 250 (.ishl) 1 251 := ⟨by decide +kernel, rfl⟩
theorem eX0_plan_251 : Db cX0_plan 251 (fun o => .if_icmp .ge o) 363 254 := ⟨112, by decide +kernel, by decide, rfl⟩
theorem eX0_plan_254 : Dc cX0_plan 254 (.aload 7) 2 256 := ⟨by decide +kernel, rfl⟩
theorem eX0_plan_256 : Dc cX0_plan 256 (.iload 11) 2 258 := ⟨by decide +kernel, rfl⟩
theorem eX0_plan_258 : Dc cX0_plan 258 (.invokestatic 531) 3 261 := ⟨by decide +kernel, rfl⟩
theorem eX0_plan_261 : Dc cX0_plan 261 (.lstore 12) 2 263 := ⟨by decide +kernel, rfl⟩
theorem eX0_plan_263 : Dc cX0_plan 263 (.lload 12) 2 265 := ⟨by decide +kernel, rfl⟩
theorem eX0_plan_265 : Dc cX0_plan 265 (.iload_n 3) 1 266 := ⟨by decide +kernel, rfl⟩
theorem eX0_plan_266 : Dc cX0_plan 266 (.i2l) 1 267 := ⟨by decide +kernel, rfl⟩
theorem eX0_plan_267 : Dc cX0_plan 267 (.lcmp) 1 268 := ⟨by decide +kernel, rfl⟩
theorem eX0_plan_268 : Db cX0_plan 268 (fun o => .ifCond .gt o) 357 271 := ⟨89, by decide +kernel, by decide, rfl⟩
theorem eX0_plan_271 : Dc cX0_plan 271 (.aload 6) 2 273 := ⟨by decide +kernel, rfl⟩
theorem eX0_plan_273 : Dc cX0_plan 273 (.iload 11) 2 275 := ⟨by decide +kernel, rfl⟩
theorem eX0_plan_275 : Dc cX0_plan 275 (.invokestatic 531) 3 278 := ⟨by decide +kernel, rfl⟩
theorem eX0_plan_278 : Dc cX0_plan 278 (.iload_n 2) 1 279 := ⟨by decide +kernel, rfl⟩
theorem eX0_plan_279 : Dc cX0_plan 279 (.i2l) 1 280 := ⟨by decide +kernel, rfl⟩
theorem eX0_plan_280 : Dc cX0_plan 280 (.lcmp) 1 281 := ⟨by decide +kernel, rfl⟩
theorem eX0_plan_281 : Db cX0_plan 281 (fun o => .ifCond .gt o) 357 284 := ⟨76, by decide +kernel, by decide, rfl⟩
theorem eX0_plan_284 : Dc cX0_plan 284 (.aload_n 0) 1 285 := ⟨by decide +kernel, rfl⟩
theorem eX0_plan_285 : Dc cX0_plan 285 (.aload 5) 2 287 := ⟨by decide +kernel, rfl⟩
theorem eX0_plan_287 : Dc cX0_plan 287 (.iload 11) 2 289 := ⟨by decide +kernel, rfl⟩
theorem eX0_plan_289 : Dc cX0_plan 289 (.invokevirtual 535) 3 292 := ⟨by decide +kernel, rfl⟩
theorem eX0_plan_292 : Db cX0_plan 292 (fun o => .ifCond .ne o) 357 295 := ⟨65, by decide +kernel, by decide, rfl⟩
theorem eX0_plan_295 : Dc cX0_plan 295 (.aload_n 0) 1 296 := ⟨by decide +kernel, rfl⟩
theorem eX0_plan_296 : Dc cX0_plan 296 (.iload_n 1) 1 297 := ⟨by decide +kernel, rfl⟩
theorem eX0_plan_297 : Dc cX0_plan 297 (.aload 5) 2 299 := ⟨by decide +kernel, rfl⟩
theorem eX0_plan_299 : Dc cX0_plan 299 (.iload 11) 2 301 := ⟨by decide +kernel, rfl⟩
theorem eX0_plan_301 : Dc cX0_plan 301 (.invokevirtual 525) 3 304 := ⟨by decide +kernel, rfl⟩
theorem eX0_plan_304 : Db cX0_plan 304 (fun o => .ifCond .ne o) 310 307 := ⟨6, by decide +kernel, by decide, rfl⟩
theorem eX0_plan_307 : Db cX0_plan 307 (fun o => .goto o) 357 310 := ⟨50, by decide +kernel, by decide, rfl⟩
theorem eX0_plan_310 : Dc cX0_plan 310 (.iload 8) 2 312 := ⟨by decide +kernel, rfl⟩
theorem eX0_plan_312 : Dc cX0_plan 312 (.bipush (-5)) 2 314 := ⟨by decide +kernel, rfl⟩
theorem eX0_plan_314 : Db cX0_plan 314 (fun o => .if_icmp .eq o) 349 317 := ⟨35, by decide +kernel, by decide, rfl⟩
theorem eX0_plan_317 : Dc cX0_plan 317 (.lload 12) 2 319 := ⟨by decide +kernel, rfl⟩
theorem eX0_plan_319 : Dc cX0_plan 319 (.lload 9) 2 321 := ⟨by decide +kernel, rfl⟩
theorem eX0_plan_321 : Dc cX0_plan 321 (.lcmp) 1 322 := ⟨by decide +kernel, rfl⟩
theorem eX0_plan_322 : Db cX0_plan 322 (fun o => .ifCond .gt o) 357 325 := ⟨35, by decide +kernel, by decide, rfl⟩
theorem eX0_plan_325 : Dc cX0_plan 325 (.lload 12) 2 327 := ⟨by decide +kernel, rfl⟩
theorem eX0_plan_327 : Dc cX0_plan 327 (.lload 9) 2 329 := ⟨by decide +kernel, rfl⟩
theorem eX0_plan_329 : Dc cX0_plan 329 (.lcmp) 1 330 := ⟨by decide +kernel, rfl⟩
theorem eX0_plan_330 : Db cX0_plan 330 (fun o => .ifCond .ne o) 349 333 := ⟨19, by decide +kernel, by decide, rfl⟩
theorem eX0_plan_333 : Dc cX0_plan 333 (.iload 11) 2 335 := ⟨by decide +kernel, rfl⟩
theorem eX0_plan_335 : Dc cX0_plan 335 (.invokestatic 520) 3 338 := ⟨by decide +kernel, rfl⟩
theorem eX0_plan_338 : Dc cX0_plan 338 (.iload 8) 2 340 := ⟨by decide +kernel, rfl⟩
theorem eX0_plan_340 : Dc cX0_plan 340 (.invokestatic 520) 3 343 := ⟨by decide +kernel, rfl⟩
theorem eX0_plan_343 : Db cX0_plan 343 (fun o => .if_icmp .lt o) 349 346 := ⟨6, by decide +kernel, by decide, rfl⟩
theorem eX0_plan_346 : Db cX0_plan 346 (fun o => .goto o) 357 349 := ⟨11, by decide +kernel, by decide, rfl⟩
theorem eX0_plan_349 : Dc cX0_plan 349 (.iload 11) 2 351 := ⟨by decide +kernel, rfl⟩
theorem eX0_plan_351 : Dc cX0_plan 351 (.istore 8) 2 353 := ⟨by decide +kernel, rfl⟩
theorem eX0_plan_353 : Dc cX0_plan 353 (.lload 12) 2 355 := ⟨by decide +kernel, rfl⟩
theorem eX0_plan_355 : Dc cX0_plan 355 (.lstore 9) 2 357 := ⟨by decide +kernel, rfl⟩
theorem eX0_plan_357 : Dc cX0_plan 357 (.iinc 11 1) 3 360 := ⟨by decide +kernel, rfl⟩
theorem eX0_plan_360 : Db cX0_plan 360 (fun o => .goto o) 242 363 := ⟨-118, by decide +kernel, by decide, rfl⟩
theorem eX0_plan_363 : Dc cX0_plan 363 (.iload 8) 2 365 := ⟨by decide +kernel, rfl⟩
theorem eX0_plan_365 : Dc cX0_plan 365 (.bipush (-5)) 2 367 := ⟨by decide +kernel, rfl⟩
theorem eX0_plan_367 : Db cX0_plan 367 (fun o => .if_icmp .eq o) 375 370 := ⟨8, by decide +kernel, by decide, rfl⟩
theorem eX0_plan_370 : Dc cX0_plan 370 (.iload 4) 2 372 := ⟨by decide +kernel, rfl⟩
theorem eX0_plan_372 : Db cX0_plan 372 (fun o => .ifCond .ne o) 380 375 := ⟨8, by decide +kernel, by decide, rfl⟩
theorem eX0_plan_375 : Dc cX0_plan 375 (.iload 8) 2 377 := ⟨by decide +kernel, rfl⟩
theorem eX0_plan_377 : Db cX0_plan 377 (fun o => .goto o) 383 380 := ⟨6, by decide +kernel, by decide, rfl⟩
theorem eX0_plan_380 : Dc cX0_plan 380 (.lload 9) 2 382 := ⟨by decide +kernel, rfl⟩
theorem eX0_plan_382 : Dc cX0_plan 382 (.l2i) 1 383 := ⟨by decide +kernel, rfl⟩
theorem eX0_plan_383 : Dc cX0_plan 383 (.ireturn) 1 384 := ⟨by decide +kernel, rfl⟩
theorem eX0_sumOf_0 : Dc cX0_sumOf 0 (.lconst 0) 1 1 := ⟨by decide +kernel, rfl⟩
theorem eX0_sumOf_1 : Dc cX0_sumOf 1 (.lstore_n 2) 1 2 := ⟨by decide +kernel, rfl⟩
theorem eX0_sumOf_2 : Dc cX0_sumOf 2 (.iconst 0) 1 3 := ⟨by decide +kernel, rfl⟩
theorem eX0_sumOf_3 : Dc cX0_sumOf 3 (.istore 4) 2 5 := ⟨by decide +kernel, rfl⟩
theorem eX0_sumOf_5 : Dc cX0_sumOf 5 (.iload 4) 2 7 := ⟨by decide +kernel, rfl⟩
theorem eX0_sumOf_7 : Dc cX0_sumOf 7 (.aload_n 0) 1 8 := ⟨by decide +kernel, rfl⟩
theorem eX0_sumOf_8 : Dc cX0_sumOf 8 (.arraylength) 1 9 := ⟨by decide +kernel, rfl⟩
theorem eX0_sumOf_9 : Db cX0_sumOf 9 (fun o => .if_icmp .ge o) 39 12 := ⟨30, by decide +kernel, by decide, rfl⟩
theorem eX0_sumOf_12 : Dc cX0_sumOf 12 (.lload_n 2) 1 13 := ⟨by decide +kernel, rfl⟩
theorem eX0_sumOf_13 : Dc cX0_sumOf 13 (.iload_n 1) 1 14 := ⟨by decide +kernel, rfl⟩
theorem eX0_sumOf_14 : Dc cX0_sumOf 14 (.iload 4) 2 16 := ⟨by decide +kernel, rfl⟩
theorem eX0_sumOf_16 : Dc cX0_sumOf 16 (.ishr) 1 17 := ⟨by decide +kernel, rfl⟩
theorem eX0_sumOf_17 : Dc cX0_sumOf 17 (.iconst 1) 1 18 := ⟨by decide +kernel, rfl⟩
theorem eX0_sumOf_18 : Dc cX0_sumOf 18 (.iand) 1 19 := ⟨by decide +kernel, rfl⟩
theorem eX0_sumOf_19 : Dc cX0_sumOf 19 (.iconst 1) 1 20 := ⟨by decide +kernel, rfl⟩
theorem eX0_sumOf_20 : Db cX0_sumOf 20 (fun o => .if_icmp .ne o) 30 23 := ⟨10, by decide +kernel, by decide, rfl⟩
theorem eX0_sumOf_23 : Dc cX0_sumOf 23 (.aload_n 0) 1 24 := ⟨by decide +kernel, rfl⟩
theorem eX0_sumOf_24 : Dc cX0_sumOf 24 (.iload 4) 2 26 := ⟨by decide +kernel, rfl⟩
theorem eX0_sumOf_26 : Dc cX0_sumOf 26 (.laload) 1 27 := ⟨by decide +kernel, rfl⟩
theorem eX0_sumOf_27 : Db cX0_sumOf 27 (fun o => .goto o) 31 30 := ⟨4, by decide +kernel, by decide, rfl⟩
theorem eX0_sumOf_30 : Dc cX0_sumOf 30 (.lconst 0) 1 31 := ⟨by decide +kernel, rfl⟩
theorem eX0_sumOf_31 : Dc cX0_sumOf 31 (.ladd) 1 32 := ⟨by decide +kernel, rfl⟩
theorem eX0_sumOf_32 : Dc cX0_sumOf 32 (.lstore_n 2) 1 33 := ⟨by decide +kernel, rfl⟩
theorem eX0_sumOf_33 : Dc cX0_sumOf 33 (.iinc 4 1) 3 36 := ⟨by decide +kernel, rfl⟩
theorem eX0_sumOf_36 : Db cX0_sumOf 36 (fun o => .goto o) 5 39 := ⟨-31, by decide +kernel, by decide, rfl⟩
theorem eX0_sumOf_39 : Dc cX0_sumOf 39 (.lload_n 2) 1 40 := ⟨by decide +kernel, rfl⟩
theorem eX0_sumOf_40 : Dc cX0_sumOf 40 (.lreturn) 1 41 := ⟨by decide +kernel, rfl⟩
theorem eX0_barsSome_0 : Dc cX0_barsSome 0 (.iconst 0) 1 1 := ⟨by decide +kernel, rfl⟩
theorem eX0_barsSome_1 : Dc cX0_barsSome 1 (.istore_n 3) 1 2 := ⟨by decide +kernel, rfl⟩
theorem eX0_barsSome_2 : Dc cX0_barsSome 2 (.iload_n 3) 1 3 := ⟨by decide +kernel, rfl⟩
theorem eX0_barsSome_3 : Dc cX0_barsSome 3 (.aload_n 1) 1 4 := ⟨by decide +kernel, rfl⟩
theorem eX0_barsSome_4 : Dc cX0_barsSome 4 (.invokevirtual 32) 3 7 := ⟨by decide +kernel, rfl⟩
theorem eX0_barsSome_7 : Db cX0_barsSome 7 (fun o => .if_icmp .ge o) 83 10 := ⟨76, by decide +kernel, by decide, rfl⟩
theorem eX0_barsSome_10 : Dc cX0_barsSome 10 (.iconst 0) 1 11 := ⟨by decide +kernel, rfl⟩
theorem eX0_barsSome_11 : Dc cX0_barsSome 11 (.istore 4) 2 13 := ⟨by decide +kernel, rfl⟩
theorem eX0_barsSome_13 : Dc cX0_barsSome 13 (.iload 4) 2 15 := ⟨by decide +kernel, rfl⟩
theorem eX0_barsSome_15 : Dc cX0_barsSome 15 (.iload_n 3) 1 16 := ⟨by decide +kernel, rfl⟩
theorem eX0_barsSome_16 : Db cX0_barsSome 16 (fun o => .if_icmp .ge o) 77 19 := ⟨61, by decide +kernel, by decide, rfl⟩
theorem eX0_barsSome_19 : Dc cX0_barsSome 19 (.iload_n 2) 1 20 := ⟨by decide +kernel, rfl⟩
theorem eX0_barsSome_20 : Dc cX0_barsSome 20 (.iload_n 3) 1 21 := ⟨by decide +kernel, rfl⟩
theorem eX0_barsSome_21 : Dc cX0_barsSome 21 (.ishr) 1 22 := ⟨by decide +kernel, rfl⟩
theorem eX0_barsSome_22 : Dc cX0_barsSome 22 (.iconst 1) 1 23 := ⟨by decide +kernel, rfl⟩
theorem eX0_barsSome_23 : Dc cX0_barsSome 23 (.iand) 1 24 := ⟨by decide +kernel, rfl⟩
theorem eX0_barsSome_24 : Dc cX0_barsSome 24 (.iconst 1) 1 25 := ⟨by decide +kernel, rfl⟩
theorem eX0_barsSome_25 : Db cX0_barsSome 25 (fun o => .if_icmp .ne o) 71 28 := ⟨46, by decide +kernel, by decide, rfl⟩
theorem eX0_barsSome_28 : Dc cX0_barsSome 28 (.iload_n 2) 1 29 := ⟨by decide +kernel, rfl⟩
theorem eX0_barsSome_29 : Dc cX0_barsSome 29 (.iload 4) 2 31 := ⟨by decide +kernel, rfl⟩
theorem eX0_barsSome_31 : Dc cX0_barsSome 31 (.ishr) 1 32 := ⟨by decide +kernel, rfl⟩
theorem eX0_barsSome_32 : Dc cX0_barsSome 32 (.iconst 1) 1 33 := ⟨by decide +kernel, rfl⟩
theorem eX0_barsSome_33 : Dc cX0_barsSome 33 (.iand) 1 34 := ⟨by decide +kernel, rfl⟩
theorem eX0_barsSome_34 : Dc cX0_barsSome 34 (.iconst 1) 1 35 := ⟨by decide +kernel, rfl⟩
theorem eX0_barsSome_35 : Db cX0_barsSome 35 (fun o => .if_icmp .ne o) 71 38 := ⟨36, by decide +kernel, by decide, rfl⟩
theorem eX0_barsSome_38 : Dc cX0_barsSome 38 (.aload_n 1) 1 39 := ⟨by decide +kernel, rfl⟩
theorem eX0_barsSome_39 : Dc cX0_barsSome 39 (.iload_n 3) 1 40 := ⟨by decide +kernel, rfl⟩
theorem eX0_barsSome_40 : Dc cX0_barsSome 40 (.invokevirtual 38) 3 43 := ⟨by decide +kernel, rfl⟩
theorem eX0_barsSome_43 : Dc cX0_barsSome 43 (.checkcast 136) 3 46 := ⟨by decide +kernel, rfl⟩
theorem eX0_barsSome_46 : Dc cX0_barsSome 46 (.getfield 340) 3 49 := ⟨by decide +kernel, rfl⟩
theorem eX0_barsSome_49 : Dc cX0_barsSome 49 (.aload_n 1) 1 50 := ⟨by decide +kernel, rfl⟩
theorem eX0_barsSome_50 : Dc cX0_barsSome 50 (.iload 4) 2 52 := ⟨by decide +kernel, rfl⟩
theorem eX0_barsSome_52 : Dc cX0_barsSome 52 (.invokevirtual 38) 3 55 := ⟨by decide +kernel, rfl⟩
theorem eX0_barsSome_55 : Dc cX0_barsSome 55 (.checkcast 136) 3 58 := ⟨by decide +kernel, rfl⟩
theorem eX0_barsSome_58 : Dc cX0_barsSome 58 (.getfield 529) 3 61 := ⟨by decide +kernel, rfl⟩
theorem eX0_barsSome_61 : Dc cX0_barsSome 61 (.lshr) 1 62 := ⟨by decide +kernel, rfl⟩
theorem eX0_barsSome_62 : Dc cX0_barsSome 62 (.lconst 1) 1 63 := ⟨by decide +kernel, rfl⟩
theorem eX0_barsSome_63 : Dc cX0_barsSome 63 (.land) 1 64 := ⟨by decide +kernel, rfl⟩
theorem eX0_barsSome_64 : Dc cX0_barsSome 64 (.lconst 1) 1 65 := ⟨by decide +kernel, rfl⟩
theorem eX0_barsSome_65 : Dc cX0_barsSome 65 (.lcmp) 1 66 := ⟨by decide +kernel, rfl⟩
theorem eX0_barsSome_66 : Db cX0_barsSome 66 (fun o => .ifCond .ne o) 71 69 := ⟨5, by decide +kernel, by decide, rfl⟩
theorem eX0_barsSome_69 : Dc cX0_barsSome 69 (.iconst 1) 1 70 := ⟨by decide +kernel, rfl⟩
theorem eX0_barsSome_70 : Dc cX0_barsSome 70 (.ireturn) 1 71 := ⟨by decide +kernel, rfl⟩
theorem eX0_barsSome_71 : Dc cX0_barsSome 71 (.iinc 4 1) 3 74 := ⟨by decide +kernel, rfl⟩
theorem eX0_barsSome_74 : Db cX0_barsSome 74 (fun o => .goto o) 13 77 := ⟨-61, by decide +kernel, by decide, rfl⟩
theorem eX0_barsSome_77 : Dc cX0_barsSome 77 (.iinc 3 1) 3 80 := ⟨by decide +kernel, rfl⟩
theorem eX0_barsSome_80 : Db cX0_barsSome 80 (fun o => .goto o) 2 83 := ⟨-78, by decide +kernel, by decide, rfl⟩
theorem eX0_barsSome_83 : Dc cX0_barsSome 83 (.iconst 0) 1 84 := ⟨by decide +kernel, rfl⟩
theorem eX0_barsSome_84 : Dc cX0_barsSome 84 (.ireturn) 1 85 := ⟨by decide +kernel, rfl⟩
theorem eX0_tried_0 : Dc cX0_tried 0 (.iload_n 1) 1 1 := ⟨by decide +kernel, rfl⟩
theorem eX0_tried_1 : Dc cX0_tried 1 (.iconst 0) 1 2 := ⟨by decide +kernel, rfl⟩
theorem eX0_tried_2 : Dc cX0_tried 2 (.iconst 2) 1 3 := ⟨by decide +kernel, rfl⟩
theorem eX0_tried_3 : Dc cX0_tried 3 (.invokestatic 3) 3 6 := ⟨by decide +kernel, rfl⟩
theorem eX0_tried_6 : Db cX0_tried 6 (fun o => .ifCond .ne o) 11 9 := ⟨5, by decide +kernel, by decide, rfl⟩
theorem eX0_tried_9 : Dc cX0_tried 9 (.iconst (-1)) 1 10 := ⟨by decide +kernel, rfl⟩
theorem eX0_tried_10 : Dc cX0_tried 10 (.ireturn) 1 11 := ⟨by decide +kernel, rfl⟩
theorem eX0_tried_11 : Dc cX0_tried 11 (.aload_n 0) 1 12 := ⟨by decide +kernel, rfl⟩
theorem eX0_tried_12 : Dc cX0_tried 12 (.getfield 77) 3 15 := ⟨by decide +kernel, rfl⟩
theorem eX0_tried_15 : Dc cX0_tried 15 (.aload_n 0) 1 16 := ⟨by decide +kernel, rfl⟩
theorem eX0_tried_16 : Dc cX0_tried 16 (.getfield 80) 3 19 := ⟨by decide +kernel, rfl⟩
theorem eX0_tried_19 : Dc cX0_tried 19 (.aload_n 0) 1 20 := ⟨by decide +kernel, rfl⟩
theorem eX0_tried_20 : Dc cX0_tried 20 (.getfield 194) 3 23 := ⟨by decide +kernel, rfl⟩
theorem eX0_tried_23 : Dc cX0_tried 23 (.invokevirtual 84) 3 26 := ⟨by decide +kernel, rfl⟩
theorem eX0_tried_26 : Dc cX0_tried 26 (.invokevirtual 52) 3 29 := ⟨by decide +kernel, rfl⟩
theorem eX0_tried_29 : Dc cX0_tried 29 (.pop) 1 30 := ⟨by decide +kernel, rfl⟩
theorem eX0_tried_30 : Dc cX0_tried 30 (.aload_n 0) 1 31 := ⟨by decide +kernel, rfl⟩
theorem eX0_tried_31 : Dc cX0_tried 31 (.iload_n 1) 1 32 := ⟨by decide +kernel, rfl⟩
theorem eX0_tried_32 : Dc cX0_tried 32 (.invokevirtual 539) 3 35 := ⟨by decide +kernel, rfl⟩
theorem eX0_tried_35 : Dc cX0_tried 35 (.istore_n 2) 1 36 := ⟨by decide +kernel, rfl⟩
theorem eX0_tried_36 : Dc cX0_tried 36 (.aload_n 0) 1 37 := ⟨by decide +kernel, rfl⟩
theorem eX0_tried_37 : Dc cX0_tried 37 (.getfield 77) 3 40 := ⟨by decide +kernel, rfl⟩
theorem eX0_tried_40 : Dc cX0_tried 40 (.aload_n 0) 1 41 := ⟨by decide +kernel, rfl⟩
theorem eX0_tried_41 : Dc cX0_tried 41 (.getfield 77) 3 44 := ⟨by decide +kernel, rfl⟩
theorem eX0_tried_44 : Dc cX0_tried 44 (.invokevirtual 32) 3 47 := ⟨by decide +kernel, rfl⟩
theorem eX0_tried_47 : Dc cX0_tried 47 (.iconst 1) 1 48 := ⟨by decide +kernel, rfl⟩
theorem eX0_tried_48 : Dc cX0_tried 48 (.isub) 1 49 := ⟨by decide +kernel, rfl⟩
theorem eX0_tried_49 : Dc cX0_tried 49 (.invokevirtual 455) 3 52 := ⟨by decide +kernel, rfl⟩
theorem eX0_tried_52 : Dc cX0_tried 52 (.pop) 1 53 := ⟨by decide +kernel, rfl⟩
theorem eX0_tried_53 : Dc cX0_tried 53 (.iload_n 2) 1 54 := ⟨by decide +kernel, rfl⟩
theorem eX0_tried_54 : Dc cX0_tried 54 (.istore_n 3) 1 55 := ⟨by decide +kernel, rfl⟩
theorem eX0_tried_55 : Dc cX0_tried 55 (.aload_n 0) 1 56 := ⟨by decide +kernel, rfl⟩
theorem eX0_tried_56 : Dc cX0_tried 56 (.iconst 0) 1 57 := ⟨by decide +kernel, rfl⟩
theorem eX0_tried_57 : Dc cX0_tried 57 (.putfield 67) 3 60 := ⟨by decide +kernel, rfl⟩
theorem eX0_tried_60 : Dc cX0_tried 60 (.iload_n 3) 1 61 := ⟨by decide +kernel, rfl⟩
theorem eX0_tried_61 : Dc cX0_tried 61 (.ireturn) 1 62 := ⟨by decide +kernel, rfl⟩
theorem eX0_tried_62 : Dc cX0_tried 62 (.astore_n 2) 1 63 := ⟨by decide +kernel, rfl⟩
theorem eX0_tried_63 : Dc cX0_tried 63 (.bipush (-10)) 2 65 := ⟨by decide +kernel, rfl⟩
theorem eX0_tried_65 : Dc cX0_tried 65 (.aload_n 2) 1 66 := ⟨by decide +kernel, rfl⟩
theorem eX0_tried_66 : Dc cX0_tried 66 (.getfield 92) 3 69 := ⟨by decide +kernel, rfl⟩
theorem eX0_tried_69 : Dc cX0_tried 69 (.isub) 1 70 := ⟨by decide +kernel, rfl⟩
theorem eX0_tried_70 : Dc cX0_tried 70 (.istore_n 3) 1 71 := ⟨by decide +kernel, rfl⟩
theorem eX0_tried_71 : Dc cX0_tried 71 (.aload_n 0) 1 72 := ⟨by decide +kernel, rfl⟩
theorem eX0_tried_72 : Dc cX0_tried 72 (.iconst 0) 1 73 := ⟨by decide +kernel, rfl⟩
theorem eX0_tried_73 : Dc cX0_tried 73 (.putfield 67) 3 76 := ⟨by decide +kernel, rfl⟩
theorem eX0_tried_76 : Dc cX0_tried 76 (.iload_n 3) 1 77 := ⟨by decide +kernel, rfl⟩
theorem eX0_tried_77 : Dc cX0_tried 77 (.ireturn) 1 78 := ⟨by decide +kernel, rfl⟩
theorem eX0_tried_78 : Dc cX0_tried 78 (.astore 4) 2 80 := ⟨by decide +kernel, rfl⟩
theorem eX0_tried_80 : Dc cX0_tried 80 (.aload_n 0) 1 81 := ⟨by decide +kernel, rfl⟩
theorem eX0_tried_81 : Dc cX0_tried 81 (.iconst 0) 1 82 := ⟨by decide +kernel, rfl⟩
theorem eX0_tried_82 : Dc cX0_tried 82 (.putfield 67) 3 85 := ⟨by decide +kernel, rfl⟩
theorem eX0_tried_85 : Dc cX0_tried 85 (.aload 4) 2 87 := ⟨by decide +kernel, rfl⟩
theorem eX0_tried_87 : Dc cX0_tried 87 (.athrow) 1 88 := ⟨by decide +kernel, rfl⟩
theorem eX0_triedOf_0 : Dc cX0_triedOf 0 (.iconst 0) 1 1 := ⟨by decide +kernel, rfl⟩
theorem eX0_triedOf_1 : Dc cX0_triedOf 1 (.istore_n 2) 1 2 := ⟨by decide +kernel, rfl⟩
theorem eX0_triedOf_2 : Dc cX0_triedOf 2 (.iconst 0) 1 3 := ⟨by decide +kernel, rfl⟩
theorem eX0_triedOf_3 : Dc cX0_triedOf 3 (.istore_n 3) 1 4 := ⟨by decide +kernel, rfl⟩
theorem eX0_triedOf_4 : Dc cX0_triedOf 4 (.iload_n 3) 1 5 := ⟨by decide +kernel, rfl⟩
theorem eX0_triedOf_5 : Dc cX0_triedOf 5 (.aload_n 0) 1 6 := ⟨by decide +kernel, rfl⟩
theorem eX0_triedOf_6 : Dc cX0_triedOf 6 (.getfield 121) 3 9 := ⟨by decide +kernel, rfl⟩
theorem eX0_triedOf_9 : Dc cX0_triedOf 9 (.invokevirtual 32) 3 12 := ⟨by decide +kernel, rfl⟩
theorem eX0_triedOf_12 : Db cX0_triedOf 12 (fun o => .if_icmp .ge o) 142 15 := ⟨130, by decide +kernel, by decide, rfl⟩
theorem eX0_triedOf_15 : Dc cX0_triedOf 15 (.iload_n 1) 1 16 := ⟨by decide +kernel, rfl⟩
theorem eX0_triedOf_16 : Dc cX0_triedOf 16 (.iconst 2) 1 17 := ⟨by decide +kernel, rfl⟩
theorem eX0_triedOf_17 : Db cX0_triedOf 17 (fun o => .if_icmp .ge o) 142 20 := ⟨125, by decide +kernel, by decide, rfl⟩
theorem eX0_triedOf_20 : Dc cX0_triedOf 20 (.iload_n 1) 1 21 := ⟨by decide +kernel, rfl⟩
theorem eX0_triedOf_21 : Db cX0_triedOf 21 (fun o => .ifCond .ne o) 90 24 := ⟨69, by decide +kernel, by decide, rfl⟩
theorem eX0_triedOf_24 : Dc cX0_triedOf 24 (.iload_n 2) 1 25 := ⟨by decide +kernel, rfl⟩
theorem eX0_triedOf_25 : Dc cX0_triedOf 25 (.aload_n 0) 1 26 := ⟨by decide +kernel, rfl⟩
theorem eX0_triedOf_26 : Dc cX0_triedOf 26 (.getfield 121) 3 29 := ⟨by decide +kernel, rfl⟩
theorem eX0_triedOf_29 : Dc cX0_triedOf 29 (.iload_n 3) 1 30 := ⟨by decide +kernel, rfl⟩
theorem eX0_triedOf_30 : Dc cX0_triedOf 30 (.invokevirtual 38) 3 33 := ⟨by decide +kernel, rfl⟩
theorem eX0_triedOf_33 : Dc cX0_triedOf 33 (.astore 6) 2 35 := ⟨by decide +kernel, rfl⟩
theorem eX0_triedOf_35 : Dc cX0_triedOf 35 (.aload 6) 2 37 := ⟨by decide +kernel, rfl⟩
theorem eX0_triedOf_37 : Dc cX0_triedOf 37 (.instanceof 134) 3 40 := ⟨by decide +kernel, rfl⟩
theorem eX0_triedOf_40 : Db cX0_triedOf 40 (fun o => .ifCond .eq o) 84 43 := ⟨44, by decide +kernel, by decide, rfl⟩
theorem eX0_triedOf_43 : Dc cX0_triedOf 43 (.aload 6) 2 45 := ⟨by decide +kernel, rfl⟩
theorem eX0_triedOf_45 : Dc cX0_triedOf 45 (.checkcast 134) 3 48 := ⟨by decide +kernel, rfl⟩
theorem eX0_triedOf_48 : Dc cX0_triedOf 48 (.astore 4) 2 50 := ⟨by decide +kernel, rfl⟩
theorem eX0_triedOf_50 : Dc cX0_triedOf 50 (.aload_n 0) 1 51 := ⟨by decide +kernel, rfl⟩
theorem eX0_triedOf_51 : Dc cX0_triedOf 51 (.aload 4) 2 53 := ⟨by decide +kernel, rfl⟩
theorem eX0_triedOf_53 : Dc cX0_triedOf 53 (.aload_n 0) 1 54 := ⟨by decide +kernel, rfl⟩
theorem eX0_triedOf_54 : Dc cX0_triedOf 54 (.getfield 194) 3 57 := ⟨by decide +kernel, rfl⟩
theorem eX0_triedOf_57 : Dc cX0_triedOf 57 (.invokevirtual 277) 3 60 := ⟨by decide +kernel, rfl⟩
theorem eX0_triedOf_60 : Dc cX0_triedOf 60 (.bipush (-5)) 2 62 := ⟨by decide +kernel, rfl⟩
theorem eX0_triedOf_62 : Db cX0_triedOf 62 (fun o => .if_icmp .ne o) 84 65 := ⟨22, by decide +kernel, by decide, rfl⟩
theorem eX0_triedOf_65 : Dc cX0_triedOf 65 (.aload_n 0) 1 66 := ⟨by decide +kernel, rfl⟩
theorem eX0_triedOf_66 : Dc cX0_triedOf 66 (.aload 4) 2 68 := ⟨by decide +kernel, rfl⟩
theorem eX0_triedOf_68 : Dc cX0_triedOf 68 (.aload_n 0) 1 69 := ⟨by decide +kernel, rfl⟩
theorem eX0_triedOf_69 : Dc cX0_triedOf 69 (.getfield 194) 3 72 := ⟨by decide +kernel, rfl⟩
theorem eX0_triedOf_72 : Dc cX0_triedOf 72 (.invokevirtual 281) 3 75 := ⟨by decide +kernel, rfl⟩
theorem eX0_triedOf_75 : Dc cX0_triedOf 75 (.bipush (-5)) 2 77 := ⟨by decide +kernel, rfl⟩
theorem eX0_triedOf_77 : Db cX0_triedOf 77 (fun o => .if_icmp .ne o) 84 80 := ⟨7, by decide +kernel, by decide, rfl⟩
theorem eX0_triedOf_80 : Dc cX0_triedOf 80 (.iconst 1) 1 81 := ⟨by decide +kernel, rfl⟩
theorem eX0_triedOf_81 : Db cX0_triedOf 81 (fun o => .goto o) 85 84 := ⟨4, by decide +kernel, by decide, rfl⟩
theorem eX0_triedOf_84 : Dc cX0_triedOf 84 (.iconst 0) 1 85 := ⟨by decide +kernel, rfl⟩
theorem eX0_triedOf_85 : Dc cX0_triedOf 85 (.iadd) 1 86 := ⟨by decide +kernel, rfl⟩
theorem eX0_triedOf_86 : Dc cX0_triedOf 86 (.istore_n 2) 1 87 := ⟨by decide +kernel, rfl⟩
theorem eX0_triedOf_87 : Db cX0_triedOf 87 (fun o => .goto o) 136 90 := ⟨49, by decide +kernel, by decide, rfl⟩
theorem eX0_triedOf_90 : Dc cX0_triedOf 90 (.iload_n 2) 1 91 := ⟨by decide +kernel, rfl⟩
theorem eX0_triedOf_91 : Dc cX0_triedOf 91 (.aload_n 0) 1 92 := ⟨by decide +kernel, rfl⟩
theorem eX0_triedOf_92 : Dc cX0_triedOf 92 (.getfield 121) 3 95 := ⟨by decide +kernel, rfl⟩
theorem eX0_triedOf_95 : Dc cX0_triedOf 95 (.iload_n 3) 1 96 := ⟨by decide +kernel, rfl⟩
theorem eX0_triedOf_96 : Dc cX0_triedOf 96 (.invokevirtual 38) 3 99 := ⟨by decide +kernel, rfl⟩
theorem eX0_triedOf_99 : Dc cX0_triedOf 99 (.astore 6) 2 101 := ⟨by decide +kernel, rfl⟩
theorem eX0_triedOf_101 : Dc cX0_triedOf 101 (.aload 6) 2 103 := ⟨by decide +kernel, rfl⟩
theorem eX0_triedOf_103 : Dc cX0_triedOf 103 (.instanceof 136) 3 106 := ⟨by decide +kernel, rfl⟩
theorem eX0_triedOf_106 : Db cX0_triedOf 106 (fun o => .ifCond .eq o) 133 109 := ⟨27, by decide +kernel, by decide, rfl⟩
theorem eX0_triedOf_109 : Dc cX0_triedOf 109 (.aload 6) 2 111 := ⟨by decide +kernel, rfl⟩
theorem eX0_triedOf_111 : Dc cX0_triedOf 111 (.checkcast 136) 3 114 := ⟨by decide +kernel, rfl⟩
theorem eX0_triedOf_114 : Dc cX0_triedOf 114 (.astore 5) 2 116 := ⟨by decide +kernel, rfl⟩
theorem eX0_triedOf_116 : Dc cX0_triedOf 116 (.aload_n 0) 1 117 := ⟨by decide +kernel, rfl⟩
theorem eX0_triedOf_117 : Dc cX0_triedOf 117 (.aload 5) 2 119 := ⟨by decide +kernel, rfl⟩
theorem eX0_triedOf_119 : Dc cX0_triedOf 119 (.aload_n 0) 1 120 := ⟨by decide +kernel, rfl⟩
theorem eX0_triedOf_120 : Dc cX0_triedOf 120 (.getfield 194) 3 123 := ⟨by decide +kernel, rfl⟩
theorem eX0_triedOf_123 : Dc cX0_triedOf 123 (.invokevirtual 336) 3 126 := ⟨by decide +kernel, rfl⟩
theorem eX0_triedOf_126 : Db cX0_triedOf 126 (fun o => .ifCond .eq o) 133 129 := ⟨7, by decide +kernel, by decide, rfl⟩
theorem eX0_triedOf_129 : Dc cX0_triedOf 129 (.iconst 1) 1 130 := ⟨by decide +kernel, rfl⟩
theorem eX0_triedOf_130 : Db cX0_triedOf 130 (fun o => .goto o) 134 133 := ⟨4, by decide +kernel, by decide, rfl⟩
theorem eX0_triedOf_133 : Dc cX0_triedOf 133 (.iconst 0) 1 134 := ⟨by decide +kernel, rfl⟩
theorem eX0_triedOf_134 : Dc cX0_triedOf 134 (.iadd) 1 135 := ⟨by decide +kernel, rfl⟩
theorem eX0_triedOf_135 : Dc cX0_triedOf 135 (.istore_n 2) 1 136 := ⟨by decide +kernel, rfl⟩
theorem eX0_triedOf_136 : Dc cX0_triedOf 136 (.iinc 3 1) 3 139 := ⟨by decide +kernel, rfl⟩
theorem eX0_triedOf_139 : Db cX0_triedOf 139 (fun o => .goto o) 4 142 := ⟨-135, by decide +kernel, by decide, rfl⟩
theorem eX0_triedOf_142 : Dc cX0_triedOf 142 (.iload_n 1) 1 143 := ⟨by decide +kernel, rfl⟩
theorem eX0_triedOf_143 : Dc cX0_triedOf 143 (.iconst 2) 1 144 := ⟨by decide +kernel, rfl⟩
theorem eX0_triedOf_144 : Db cX0_triedOf 144 (fun o => .if_icmp .ge o) 151 147 := ⟨7, by decide +kernel, by decide, rfl⟩
theorem eX0_triedOf_147 : Dc cX0_triedOf 147 (.iload_n 2) 1 148 := ⟨by decide +kernel, rfl⟩
theorem eX0_triedOf_148 : Db cX0_triedOf 148 (fun o => .goto o) 219 151 := ⟨71, by decide +kernel, by decide, rfl⟩
theorem eX0_triedOf_151 : Dc cX0_triedOf 151 (.aload_n 0) 1 152 := ⟨by decide +kernel, rfl⟩
theorem eX0_triedOf_152 : Dc cX0_triedOf 152 (.getfield 28) 3 155 := ⟨by decide +kernel, rfl⟩
theorem eX0_triedOf_155 : Dc cX0_triedOf 155 (.invokevirtual 32) 3 158 := ⟨by decide +kernel, rfl⟩
theorem eX0_triedOf_158 : Dc cX0_triedOf 158 (.iconst 2) 1 159 := ⟨by decide +kernel, rfl⟩
theorem eX0_triedOf_159 : Db cX0_triedOf 159 (fun o => .if_icmp .lt o) 195 162 := ⟨36, by decide +kernel, by decide, rfl⟩
theorem eX0_triedOf_162 : Dc cX0_triedOf 162 (.aload_n 0) 1 163 := ⟨by decide +kernel, rfl⟩
theorem eX0_triedOf_163 : Dc cX0_triedOf 163 (.aload_n 0) 1 164 := ⟨by decide +kernel, rfl⟩
theorem eX0_triedOf_164 : Dc cX0_triedOf 164 (.getfield 28) 3 167 := ⟨by decide +kernel, rfl⟩
theorem eX0_triedOf_167 : Dc cX0_triedOf 167 (.iconst 0) 1 168 := ⟨by decide +kernel, rfl⟩
theorem eX0_triedOf_168 : Dc cX0_triedOf 168 (.invokevirtual 38) 3 171 := ⟨by decide +kernel, rfl⟩
theorem eX0_triedOf_171 : Dc cX0_triedOf 171 (.checkcast 42) 3 174 := ⟨by decide +kernel, rfl⟩
theorem eX0_triedOf_174 : Dc cX0_triedOf 174 (.aload_n 0) 1 175 := ⟨by decide +kernel, rfl⟩
theorem eX0_triedOf_175 : Dc cX0_triedOf 175 (.getfield 28) 3 178 := ⟨by decide +kernel, rfl⟩
theorem eX0_triedOf_178 : Dc cX0_triedOf 178 (.iconst 1) 1 179 := ⟨by decide +kernel, rfl⟩
theorem eX0_triedOf_179 : Dc cX0_triedOf 179 (.invokevirtual 38) 3 182 := ⟨by decide +kernel, rfl⟩
theorem eX0_triedOf_182 : Dc cX0_triedOf 182 (.checkcast 42) 3 185 := ⟨by decide +kernel, rfl⟩
theorem eX0_triedOf_185 : Dc cX0_triedOf 185 (.aload_n 0) 1 186 := ⟨by decide +kernel, rfl⟩
theorem eX0_triedOf_186 : Dc cX0_triedOf 186 (.getfield 194) 3 189 := ⟨by decide +kernel, rfl⟩
theorem eX0_triedOf_189 : Dc cX0_triedOf 189 (.invokevirtual 291) 3 192 := ⟨by decide +kernel, rfl⟩
theorem eX0_triedOf_192 : Db cX0_triedOf 192 (fun o => .ifCond .ne o) 200 195 := ⟨8, by decide +kernel, by decide, rfl⟩
theorem eX0_triedOf_195 : Dc cX0_triedOf 195 (.bipush (-5)) 2 197 := ⟨by decide +kernel, rfl⟩
theorem eX0_triedOf_197 : Db cX0_triedOf 197 (fun o => .goto o) 219 200 := ⟨22, by decide +kernel, by decide, rfl⟩
theorem eX0_triedOf_200 : Dc cX0_triedOf 200 (.aload_n 0) 1 201 := ⟨by decide +kernel, rfl⟩
theorem eX0_triedOf_201 : Dc cX0_triedOf 201 (.getfield 148) 3 204 := ⟨by decide +kernel, rfl⟩
theorem eX0_triedOf_204 : Dc cX0_triedOf 204 (.aload_n 0) 1 205 := ⟨by decide +kernel, rfl⟩
theorem eX0_triedOf_205 : Dc cX0_triedOf 205 (.getfield 28) 3 208 := ⟨by decide +kernel, rfl⟩
theorem eX0_triedOf_208 : Dc cX0_triedOf 208 (.iconst 0) 1 209 := ⟨by decide +kernel, rfl⟩
theorem eX0_triedOf_209 : Dc cX0_triedOf 209 (.invokevirtual 38) 3 212 := ⟨by decide +kernel, rfl⟩
theorem eX0_triedOf_212 : Dc cX0_triedOf 212 (.checkcast 42) 3 215 := ⟨by decide +kernel, rfl⟩
theorem eX0_triedOf_215 : Dc cX0_triedOf 215 (.getfield 44) 3 218 := ⟨by decide +kernel, rfl⟩
theorem eX0_triedOf_218 : Dc cX0_triedOf 218 (.iaload) 1 219 := ⟨by decide +kernel, rfl⟩
theorem eX0_triedOf_219 : Dc cX0_triedOf 219 (.ireturn) 1 220 := ⟨by decide +kernel, rfl⟩
theorem eX0_image_0 : Dc cX0_image 0 (.aload_n 0) 1 1 := ⟨by decide +kernel, rfl⟩
theorem eX0_image_1 : Dc cX0_image 1 (.new 542) 3 4 := ⟨by decide +kernel, rfl⟩
theorem eX0_image_4 : Dc cX0_image 4 (.dup) 1 5 := ⟨by decide +kernel, rfl⟩
theorem eX0_image_5 : Dc cX0_image 5 (.aload_n 0) 1 6 := ⟨by decide +kernel, rfl⟩
theorem eX0_image_6 : Dc cX0_image 6 (.invokespecial 544) 3 9 := ⟨by decide +kernel, rfl⟩
theorem eX0_image_9 : Dc cX0_image 9 (.putfield 545) 3 12 := ⟨by decide +kernel, rfl⟩
theorem eX0_image_12 : Dc cX0_image 12 (.aload_n 0) 1 13 := ⟨by decide +kernel, rfl⟩
theorem eX0_image_13 : Dc cX0_image 13 (.getfield 194) 3 16 := ⟨by decide +kernel, rfl⟩
theorem eX0_image_16 : Dc cX0_image 16 (.ireturn) 1 17 := ⟨by decide +kernel, rfl⟩
theorem eX0_undo_0 : Dc cX0_undo 0 (.aload_n 0) 1 1 := ⟨by decide +kernel, rfl⟩
theorem eX0_undo_1 : Dc cX0_undo 1 (.getfield 545) 3 4 := ⟨by decide +kernel, rfl⟩
theorem eX0_undo_4 : Db cX0_undo 4 (fun o => .ifnonnull o) 10 7 := ⟨6, by decide +kernel, by decide, rfl⟩
theorem eX0_undo_7 : Dc cX0_undo 7 (.bipush (-3)) 2 9 := ⟨by decide +kernel, rfl⟩
theorem eX0_undo_9 : Dc cX0_undo 9 (.ireturn) 1 10 := ⟨by decide +kernel, rfl⟩
theorem eX0_undo_10 : Dc cX0_undo 10 (.aload_n 0) 1 11 := ⟨by decide +kernel, rfl⟩
theorem eX0_undo_11 : Dc cX0_undo 11 (.getfield 545) 3 14 := ⟨by decide +kernel, rfl⟩
theorem eX0_undo_14 : Dc cX0_undo 14 (.invokevirtual 549) 3 17 := ⟨by decide +kernel, rfl⟩
theorem eX0_undo_17 : Dc cX0_undo 17 (.aload_n 0) 1 18 := ⟨by decide +kernel, rfl⟩
theorem eX0_undo_18 : Dc cX0_undo 18 (.getfield 194) 3 21 := ⟨by decide +kernel, rfl⟩
theorem eX0_undo_21 : Dc cX0_undo 21 (.ireturn) 1 22 := ⟨by decide +kernel, rfl⟩
theorem eX0_count_0 : Dc cX0_count 0 (.iload_n 1) 1 1 := ⟨by decide +kernel, rfl⟩
theorem eX0_count_1 : Dt cX0_count 1 (0) [60, 68, 76, 84, 89, 94, 99, 104, 109, 114, 122] 130 := ⟨129, 10, #[59, 67, 75, 83, 88, 93, 98, 103, 108, 113, 121], 59, by decide +kernel, by decide, by decide, by decide⟩
theorem eX0_count_60 : Dc cX0_count 60 (.aload_n 0) 1 61 := ⟨by decide +kernel, rfl⟩
theorem eX0_count_61 : Dc cX0_count 61 (.getfield 28) 3 64 := ⟨by decide +kernel, rfl⟩
theorem eX0_count_64 : Dc cX0_count 64 (.invokevirtual 32) 3 67 := ⟨by decide +kernel, rfl⟩
theorem eX0_count_67 : Dc cX0_count 67 (.ireturn) 1 68 := ⟨by decide +kernel, rfl⟩
theorem eX0_count_68 : Dc cX0_count 68 (.aload_n 0) 1 69 := ⟨by decide +kernel, rfl⟩
theorem eX0_count_69 : Dc cX0_count 69 (.getfield 121) 3 72 := ⟨by decide +kernel, rfl⟩
theorem eX0_count_72 : Dc cX0_count 72 (.invokevirtual 32) 3 75 := ⟨by decide +kernel, rfl⟩
theorem eX0_count_75 : Dc cX0_count 75 (.ireturn) 1 76 := ⟨by decide +kernel, rfl⟩
theorem eX0_count_76 : Dc cX0_count 76 (.aload_n 0) 1 77 := ⟨by decide +kernel, rfl⟩
theorem eX0_count_77 : Dc cX0_count 77 (.getfield 77) 3 80 := ⟨by decide +kernel, rfl⟩
theorem eX0_count_80 : Dc cX0_count 80 (.invokevirtual 32) 3 83 := ⟨by decide +kernel, rfl⟩
theorem eX0_count_83 : Dc cX0_count 83 (.ireturn) 1 84 := ⟨by decide +kernel, rfl⟩
theorem eX0_count_84 : Dc cX0_count 84 (.aload_n 0) 1 85 := ⟨by decide +kernel, rfl⟩
theorem eX0_count_85 : Dc cX0_count 85 (.getfield 194) 3 88 := ⟨by decide +kernel, rfl⟩
theorem eX0_count_88 : Dc cX0_count 88 (.ireturn) 1 89 := ⟨by decide +kernel, rfl⟩
theorem eX0_count_89 : Dc cX0_count 89 (.aload_n 0) 1 90 := ⟨by decide +kernel, rfl⟩
theorem eX0_count_90 : Dc cX0_count 90 (.getfield 67) 3 93 := ⟨by decide +kernel, rfl⟩
theorem eX0_count_93 : Dc cX0_count 93 (.ireturn) 1 94 := ⟨by decide +kernel, rfl⟩
theorem eX0_count_94 : Dc cX0_count 94 (.aload_n 0) 1 95 := ⟨by decide +kernel, rfl⟩
theorem eX0_count_95 : Dc cX0_count 95 (.getfield 64) 3 98 := ⟨by decide +kernel, rfl⟩
theorem eX0_count_98 : Dc cX0_count 98 (.ireturn) 1 99 := ⟨by decide +kernel, rfl⟩
theorem eX0_count_99 : Dc cX0_count 99 (.aload_n 0) 1 100 := ⟨by decide +kernel, rfl⟩
theorem eX0_count_100 : Dc cX0_count 100 (.invokevirtual 351) 3 103 := ⟨by decide +kernel, rfl⟩
theorem eX0_count_103 : Dc cX0_count 103 (.ireturn) 1 104 := ⟨by decide +kernel, rfl⟩
theorem eX0_count_104 : Dc cX0_count 104 (.aload_n 0) 1 105 := ⟨by decide +kernel, rfl⟩
theorem eX0_count_105 : Dc cX0_count 105 (.invokevirtual 552) 3 108 := ⟨by decide +kernel, rfl⟩
theorem eX0_count_108 : Dc cX0_count 108 (.ireturn) 1 109 := ⟨by decide +kernel, rfl⟩
theorem eX0_count_109 : Dc cX0_count 109 (.aload_n 0) 1 110 := ⟨by decide +kernel, rfl⟩
theorem eX0_count_110 : Dc cX0_count 110 (.getfield 391) 3 113 := ⟨by decide +kernel, rfl⟩
theorem eX0_count_113 : Dc cX0_count 113 (.ireturn) 1 114 := ⟨by decide +kernel, rfl⟩
theorem eX0_count_114 : Dc cX0_count 114 (.aload_n 0) 1 115 := ⟨by decide +kernel, rfl⟩
theorem eX0_count_115 : Dc cX0_count 115 (.getfield 169) 3 118 := ⟨by decide +kernel, rfl⟩
theorem eX0_count_118 : Dc cX0_count 118 (.invokevirtual 32) 3 121 := ⟨by decide +kernel, rfl⟩
theorem eX0_count_121 : Dc cX0_count 121 (.ireturn) 1 122 := ⟨by decide +kernel, rfl⟩
theorem eX0_count_122 : Dc cX0_count 122 (.aload_n 0) 1 123 := ⟨by decide +kernel, rfl⟩
theorem eX0_count_123 : Dc cX0_count 123 (.getfield 154) 3 126 := ⟨by decide +kernel, rfl⟩
theorem eX0_count_126 : Dc cX0_count 126 (.invokevirtual 32) 3 129 := ⟨by decide +kernel, rfl⟩
theorem eX0_count_129 : Dc cX0_count 129 (.ireturn) 1 130 := ⟨by decide +kernel, rfl⟩
theorem eX0_count_130 : Dc cX0_count 130 (.iconst (-1)) 1 131 := ⟨by decide +kernel, rfl⟩
theorem eX0_count_131 : Dc cX0_count 131 (.ireturn) 1 132 := ⟨by decide +kernel, rfl⟩
theorem eX0_doneMany_0 : Dc cX0_doneMany 0 (.iconst 0) 1 1 := ⟨by decide +kernel, rfl⟩
theorem eX0_doneMany_1 : Dc cX0_doneMany 1 (.istore_n 1) 1 2 := ⟨by decide +kernel, rfl⟩
theorem eX0_doneMany_2 : Dc cX0_doneMany 2 (.iconst 0) 1 3 := ⟨by decide +kernel, rfl⟩
theorem eX0_doneMany_3 : Dc cX0_doneMany 3 (.istore_n 3) 1 4 := ⟨by decide +kernel, rfl⟩
theorem eX0_doneMany_4 : Dc cX0_doneMany 4 (.iload_n 3) 1 5 := ⟨by decide +kernel, rfl⟩
theorem eX0_doneMany_5 : Dc cX0_doneMany 5 (.aload_n 0) 1 6 := ⟨by decide +kernel, rfl⟩
theorem eX0_doneMany_6 : Dc cX0_doneMany 6 (.getfield 121) 3 9 := ⟨by decide +kernel, rfl⟩
theorem eX0_doneMany_9 : Dc cX0_doneMany 9 (.invokevirtual 32) 3 12 := ⟨by decide +kernel, rfl⟩
theorem eX0_doneMany_12 : Db cX0_doneMany 12 (fun o => .if_icmp .ge o) 62 15 := ⟨50, by decide +kernel, by decide, rfl⟩
theorem eX0_doneMany_15 : Dc cX0_doneMany 15 (.iload_n 1) 1 16 := ⟨by decide +kernel, rfl⟩
theorem eX0_doneMany_16 : Dc cX0_doneMany 16 (.aload_n 0) 1 17 := ⟨by decide +kernel, rfl⟩
theorem eX0_doneMany_17 : Dc cX0_doneMany 17 (.getfield 121) 3 20 := ⟨by decide +kernel, rfl⟩
theorem eX0_doneMany_20 : Dc cX0_doneMany 20 (.iload_n 3) 1 21 := ⟨by decide +kernel, rfl⟩
theorem eX0_doneMany_21 : Dc cX0_doneMany 21 (.invokevirtual 38) 3 24 := ⟨by decide +kernel, rfl⟩
theorem eX0_doneMany_24 : Dc cX0_doneMany 24 (.astore 4) 2 26 := ⟨by decide +kernel, rfl⟩
theorem eX0_doneMany_26 : Dc cX0_doneMany 26 (.aload 4) 2 28 := ⟨by decide +kernel, rfl⟩
theorem eX0_doneMany_28 : Dc cX0_doneMany 28 (.instanceof 136) 3 31 := ⟨by decide +kernel, rfl⟩
theorem eX0_doneMany_31 : Db cX0_doneMany 31 (fun o => .ifCond .eq o) 53 34 := ⟨22, by decide +kernel, by decide, rfl⟩
theorem eX0_doneMany_34 : Dc cX0_doneMany 34 (.aload 4) 2 36 := ⟨by decide +kernel, rfl⟩
theorem eX0_doneMany_36 : Dc cX0_doneMany 36 (.checkcast 136) 3 39 := ⟨by decide +kernel, rfl⟩
theorem eX0_doneMany_39 : Dc cX0_doneMany 39 (.astore_n 2) 1 40 := ⟨by decide +kernel, rfl⟩
theorem eX0_doneMany_40 : Dc cX0_doneMany 40 (.aload_n 2) 1 41 := ⟨by decide +kernel, rfl⟩
theorem eX0_doneMany_41 : Dc cX0_doneMany 41 (.getfield 503) 3 44 := ⟨by decide +kernel, rfl⟩
theorem eX0_doneMany_44 : Dc cX0_doneMany 44 (.bipush (-5)) 2 46 := ⟨by decide +kernel, rfl⟩
theorem eX0_doneMany_46 : Db cX0_doneMany 46 (fun o => .if_icmp .eq o) 53 49 := ⟨7, by decide +kernel, by decide, rfl⟩
theorem eX0_doneMany_49 : Dc cX0_doneMany 49 (.iconst 1) 1 50 := ⟨by decide +kernel, rfl⟩
theorem eX0_doneMany_50 : Db cX0_doneMany 50 (fun o => .goto o) 54 53 := ⟨4, by decide +kernel, by decide, rfl⟩
theorem eX0_doneMany_53 : Dc cX0_doneMany 53 (.iconst 0) 1 54 := ⟨by decide +kernel, rfl⟩
theorem eX0_doneMany_54 : Dc cX0_doneMany 54 (.iadd) 1 55 := ⟨by decide +kernel, rfl⟩
theorem eX0_doneMany_55 : Dc cX0_doneMany 55 (.istore_n 1) 1 56 := ⟨by decide +kernel, rfl⟩
theorem eX0_doneMany_56 : Dc cX0_doneMany 56 (.iinc 3 1) 3 59 := ⟨by decide +kernel, rfl⟩
theorem eX0_doneMany_59 : Db cX0_doneMany 59 (fun o => .goto o) 4 62 := ⟨-55, by decide +kernel, by decide, rfl⟩
theorem eX0_doneMany_62 : Dc cX0_doneMany 62 (.iload_n 1) 1 63 := ⟨by decide +kernel, rfl⟩
theorem eX0_doneMany_63 : Dc cX0_doneMany 63 (.ireturn) 1 64 := ⟨by decide +kernel, rfl⟩
theorem eX0_sheet_0 : Dc cX0_sheet 0 (.iload_n 1) 1 1 := ⟨by decide +kernel, rfl⟩
theorem eX0_sheet_1 : Dc cX0_sheet 1 (.invokestatic 248) 3 4 := ⟨by decide +kernel, rfl⟩
theorem eX0_sheet_4 : Db cX0_sheet 4 (fun o => .ifCond .ne o) 9 7 := ⟨5, by decide +kernel, by decide, rfl⟩
theorem eX0_sheet_7 : Dc cX0_sheet 7 (.iconst (-1)) 1 8 := ⟨by decide +kernel, rfl⟩
theorem eX0_sheet_8 : Dc cX0_sheet 8 (.ireturn) 1 9 := ⟨by decide +kernel, rfl⟩
theorem eX0_sheet_9 : Dc cX0_sheet 9 (.iload_n 2) 1 10 := ⟨by decide +kernel, rfl⟩
theorem eX0_sheet_10 : Dc cX0_sheet 10 (.iconst (-1)) 1 11 := ⟨by decide +kernel, rfl⟩
theorem eX0_sheet_11 : Dc cX0_sheet 11 (.iconst 2) 1 12 := ⟨by decide +kernel, rfl⟩
theorem eX0_sheet_12 : Dc cX0_sheet 12 (.invokestatic 3) 3 15 := ⟨by decide +kernel, rfl⟩
theorem eX0_sheet_15 : Db cX0_sheet 15 (fun o => .ifCond .eq o) 28 18 := ⟨13, by decide +kernel, by decide, rfl⟩
theorem eX0_sheet_18 : Dc cX0_sheet 18 (.iload_n 2) 1 19 := ⟨by decide +kernel, rfl⟩
theorem eX0_sheet_19 : Db cX0_sheet 19 (fun o => .ifCond .lt o) 31 22 := ⟨12, by decide +kernel, by decide, rfl⟩
theorem eX0_sheet_22 : Dc cX0_sheet 22 (.iload_n 3) 1 23 := ⟨by decide +kernel, rfl⟩
theorem eX0_sheet_23 : Dc cX0_sheet 23 (.bipush 40) 2 25 := ⟨by decide +kernel, rfl⟩
theorem eX0_sheet_25 : Db cX0_sheet 25 (fun o => .if_icmp .le o) 31 28 := ⟨6, by decide +kernel, by decide, rfl⟩
theorem eX0_sheet_28 : Dc cX0_sheet 28 (.bipush (-2)) 2 30 := ⟨by decide +kernel, rfl⟩
theorem eX0_sheet_30 : Dc cX0_sheet 30 (.ireturn) 1 31 := ⟨by decide +kernel, rfl⟩
theorem eX0_sheet_31 : Dc cX0_sheet 31 (.iload_n 2) 1 32 := ⟨by decide +kernel, rfl⟩
theorem eX0_sheet_32 : Db cX0_sheet 32 (fun o => .ifCond .lt o) 42 35 := ⟨10, by decide +kernel, by decide, rfl⟩
theorem eX0_sheet_35 : Dc cX0_sheet 35 (.iload_n 3) 1 36 := ⟨by decide +kernel, rfl⟩
theorem eX0_sheet_36 : Db cX0_sheet 36 (fun o => .ifCond .ge o) 42 39 := ⟨6, by decide +kernel, by decide, rfl⟩
theorem eX0_sheet_39 : Dc cX0_sheet 39 (.bipush (-14)) 2 41 := ⟨by decide +kernel, rfl⟩
theorem eX0_sheet_41 : Dc cX0_sheet 41 (.ireturn) 1 42 := ⟨by decide +kernel, rfl⟩
theorem eX0_sheet_42 : Dc cX0_sheet 42 (.aload_n 0) 1 43 := ⟨by decide +kernel, rfl⟩
theorem eX0_sheet_43 : Dc cX0_sheet 43 (.getfield 179) 3 46 := ⟨by decide +kernel, rfl⟩
theorem eX0_sheet_46 : Dc cX0_sheet 46 (.iload_n 1) 1 47 := ⟨by decide +kernel, rfl⟩
theorem eX0_sheet_47 : Dc cX0_sheet 47 (.iload_n 2) 1 48 := ⟨by decide +kernel, rfl⟩
theorem eX0_sheet_48 : Db cX0_sheet 48 (fun o => .ifCond .ge o) 55 51 := ⟨7, by decide +kernel, by decide, rfl⟩
theorem eX0_sheet_51 : Dc cX0_sheet 51 (.aconst_null) 1 52 := ⟨by decide +kernel, rfl⟩
theorem eX0_sheet_52 : Db cX0_sheet 52 (fun o => .goto o) 100 55 := ⟨48, by decide +kernel, by decide, rfl⟩
theorem eX0_sheet_55 : Dc cX0_sheet 55 (.iload_n 2) 1 56 := ⟨by decide +kernel, rfl⟩
theorem eX0_sheet_56 : Db cX0_sheet 56 (fun o => .ifCond .ne o) 72 59 := ⟨16, by decide +kernel, by decide, rfl⟩
theorem eX0_sheet_59 : Dc cX0_sheet 59 (.new 251) 3 62 := ⟨by decide +kernel, rfl⟩
theorem eX0_sheet_62 : Dc cX0_sheet 62 (.dup) 1 63 := ⟨by decide +kernel, rfl⟩
theorem eX0_sheet_63 : Dc cX0_sheet 63 (.iload_n 3) 1 64 := ⟨by decide +kernel, rfl⟩
theorem eX0_sheet_64 : Dc cX0_sheet 64 (.newarray .byte) 2 66 := ⟨by decide +kernel, rfl⟩
theorem eX0_sheet_66 : Dc cX0_sheet 66 (.invokespecial 555) 3 69 := ⟨by decide +kernel, rfl⟩
theorem eX0_sheet_69 : Db cX0_sheet 69 (fun o => .goto o) 100 72 := ⟨31, by decide +kernel, by decide, rfl⟩
theorem eX0_sheet_72 : Dc cX0_sheet 72 (.iload_n 2) 1 73 := ⟨by decide +kernel, rfl⟩
theorem eX0_sheet_73 : Dc cX0_sheet 73 (.iconst 1) 1 74 := ⟨by decide +kernel, rfl⟩
theorem eX0_sheet_74 : Db cX0_sheet 74 (fun o => .if_icmp .ne o) 90 77 := ⟨16, by decide +kernel, by decide, rfl⟩
theorem eX0_sheet_77 : Dc cX0_sheet 77 (.new 558) 3 80 := ⟨by decide +kernel, rfl⟩
theorem eX0_sheet_80 : Dc cX0_sheet 80 (.dup) 1 81 := ⟨by decide +kernel, rfl⟩
theorem eX0_sheet_81 : Dc cX0_sheet 81 (.iload_n 3) 1 82 := ⟨by decide +kernel, rfl⟩
theorem eX0_sheet_82 : Dc cX0_sheet 82 (.newarray .short) 2 84 := ⟨by decide +kernel, rfl⟩
theorem eX0_sheet_84 : Dc cX0_sheet 84 (.invokespecial 560) 3 87 := ⟨by decide +kernel, rfl⟩
theorem eX0_sheet_87 : Db cX0_sheet 87 (fun o => .goto o) 100 90 := ⟨13, by decide +kernel, by decide, rfl⟩
theorem eX0_sheet_90 : Dc cX0_sheet 90 (.new 235) 3 93 := ⟨by decide +kernel, rfl⟩
theorem eX0_sheet_93 : Dc cX0_sheet 93 (.dup) 1 94 := ⟨by decide +kernel, rfl⟩
theorem eX0_sheet_94 : Dc cX0_sheet 94 (.iload_n 3) 1 95 := ⟨by decide +kernel, rfl⟩
theorem eX0_sheet_95 : Dc cX0_sheet 95 (.newarray .int) 2 97 := ⟨by decide +kernel, rfl⟩
theorem eX0_sheet_97 : Dc cX0_sheet 97 (.invokespecial 563) 3 100 := ⟨by decide +kernel, rfl⟩
theorem eX0_sheet_100 : Dc cX0_sheet 100 (.aastore) 1 101 := ⟨by decide +kernel, rfl⟩
theorem eX0_sheet_101 : Dc cX0_sheet 101 (.iconst 1) 1 102 := ⟨by decide +kernel, rfl⟩
theorem eX0_sheet_102 : Dc cX0_sheet 102 (.ireturn) 1 103 := ⟨by decide +kernel, rfl⟩
theorem eX0_item_0 : Dc cX0_item 0 (.iload_n 1) 1 1 := ⟨by decide +kernel, rfl⟩
theorem eX0_item_1 : Dc cX0_item 1 (.invokestatic 248) 3 4 := ⟨by decide +kernel, rfl⟩
theorem eX0_item_4 : Db cX0_item 4 (fun o => .ifCond .ne o) 9 7 := ⟨5, by decide +kernel, by decide, rfl⟩
theorem eX0_item_7 : Dc cX0_item 7 (.iconst (-1)) 1 8 := ⟨by decide +kernel, rfl⟩
theorem eX0_item_8 : Dc cX0_item 8 (.ireturn) 1 9 := ⟨by decide +kernel, rfl⟩
theorem eX0_item_9 : Dc cX0_item 9 (.aload_n 0) 1 10 := ⟨by decide +kernel, rfl⟩
theorem eX0_item_10 : Dc cX0_item 10 (.getfield 179) 3 13 := ⟨by decide +kernel, rfl⟩
theorem eX0_item_13 : Dc cX0_item 13 (.iload_n 1) 1 14 := ⟨by decide +kernel, rfl⟩
theorem eX0_item_14 : Dc cX0_item 14 (.aaload) 1 15 := ⟨by decide +kernel, rfl⟩
theorem eX0_item_15 : Db cX0_item 15 (fun o => .ifnonnull o) 21 18 := ⟨6, by decide +kernel, by decide, rfl⟩
theorem eX0_item_18 : Dc cX0_item 18 (.bipush (-11)) 2 20 := ⟨by decide +kernel, rfl⟩
theorem eX0_item_20 : Dc cX0_item 20 (.ireturn) 1 21 := ⟨by decide +kernel, rfl⟩
theorem eX0_item_21 : Dc cX0_item 21 (.iload_n 2) 1 22 := ⟨by decide +kernel, rfl⟩
theorem eX0_item_22 : Dc cX0_item 22 (.iconst 0) 1 23 := ⟨by decide +kernel, rfl⟩
theorem eX0_item_23 : Dc cX0_item 23 (.aload_n 0) 1 24 := ⟨by decide +kernel, rfl⟩
theorem eX0_item_24 : Dc cX0_item 24 (.getfield 179) 3 27 := ⟨by decide +kernel, rfl⟩
theorem eX0_item_27 : Dc cX0_item 27 (.iload_n 1) 1 28 := ⟨by decide +kernel, rfl⟩
theorem eX0_item_28 : Dc cX0_item 28 (.aaload) 1 29 := ⟨by decide +kernel, rfl⟩
theorem eX0_item_29 : Dc cX0_item 29 (.invokevirtual 210) 3 32 := ⟨by decide +kernel, rfl⟩
theorem eX0_item_32 : Dc cX0_item 32 (.iconst 1) 1 33 := ⟨by decide +kernel, rfl⟩
theorem eX0_item_33 : Dc cX0_item 33 (.isub) 1 34 := ⟨by decide +kernel, rfl⟩
theorem eX0_item_34 : Dc cX0_item 34 (.invokestatic 3) 3 37 := ⟨by decide +kernel, rfl⟩
theorem eX0_item_37 : Db cX0_item 37 (fun o => .ifCond .ne o) 43 40 := ⟨6, by decide +kernel, by decide, rfl⟩
theorem eX0_item_40 : Dc cX0_item 40 (.bipush (-12)) 2 42 := ⟨by decide +kernel, rfl⟩
theorem eX0_item_42 : Dc cX0_item 42 (.ireturn) 1 43 := ⟨by decide +kernel, rfl⟩
theorem eX0_item_43 : Dc cX0_item 43 (.aload_n 0) 1 44 := ⟨by decide +kernel, rfl⟩
theorem eX0_item_44 : Dc cX0_item 44 (.getfield 179) 3 47 := ⟨by decide +kernel, rfl⟩
theorem eX0_item_47 : Dc cX0_item 47 (.iload_n 1) 1 48 := ⟨by decide +kernel, rfl⟩
theorem eX0_item_48 : Dc cX0_item 48 (.aaload) 1 49 := ⟨by decide +kernel, rfl⟩
theorem eX0_item_49 : Dc cX0_item 49 (.iload_n 2) 1 50 := ⟨by decide +kernel, rfl⟩
theorem eX0_item_50 : Dc cX0_item 50 (.iload_n 3) 1 51 := ⟨by decide +kernel, rfl⟩
theorem eX0_item_51 : Dc cX0_item 51 (.invokevirtual 566) 3 54 := ⟨by decide +kernel, rfl⟩
theorem eX0_item_54 : Dc cX0_item 54 (.iconst 1) 1 55 := ⟨by decide +kernel, rfl⟩
theorem eX0_item_55 : Dc cX0_item 55 (.ireturn) 1 56 := ⟨by decide +kernel, rfl⟩
theorem eX0_copy_0 : Dc cX0_copy 0 (.iload_n 1) 1 1 := ⟨by decide +kernel, rfl⟩
theorem eX0_copy_1 : Dc cX0_copy 1 (.invokestatic 248) 3 4 := ⟨by decide +kernel, rfl⟩
theorem eX0_copy_4 : Db cX0_copy 4 (fun o => .ifCond .eq o) 14 7 := ⟨10, by decide +kernel, by decide, rfl⟩
theorem eX0_copy_7 : Dc cX0_copy 7 (.iload_n 3) 1 8 := ⟨by decide +kernel, rfl⟩
theorem eX0_copy_8 : Dc cX0_copy 8 (.invokestatic 248) 3 11 := ⟨by decide +kernel, rfl⟩
theorem eX0_copy_11 : Db cX0_copy 11 (fun o => .ifCond .ne o) 16 14 := ⟨5, by decide +kernel, by decide, rfl⟩
theorem eX0_copy_14 : Dc cX0_copy 14 (.iconst (-1)) 1 15 := ⟨by decide +kernel, rfl⟩
theorem eX0_copy_15 : Dc cX0_copy 15 (.ireturn) 1 16 := ⟨by decide +kernel, rfl⟩
theorem eX0_copy_16 : Dc cX0_copy 16 (.aload_n 0) 1 17 := ⟨by decide +kernel, rfl⟩
theorem eX0_copy_17 : Dc cX0_copy 17 (.getfield 179) 3 20 := ⟨by decide +kernel, rfl⟩
theorem eX0_copy_20 : Dc cX0_copy 20 (.iload_n 1) 1 21 := ⟨by decide +kernel, rfl⟩
theorem eX0_copy_21 : Dc cX0_copy 21 (.aaload) 1 22 := ⟨by decide +kernel, rfl⟩
theorem eX0_copy_22 : Dc cX0_copy 22 (.astore 6) 2 24 := ⟨by decide +kernel, rfl⟩
theorem eX0_copy_24 : Dc cX0_copy 24 (.aload_n 0) 1 25 := ⟨by decide +kernel, rfl⟩
theorem eX0_copy_25 : Dc cX0_copy 25 (.getfield 179) 3 28 := ⟨by decide +kernel, rfl⟩
theorem eX0_copy_28 : Dc cX0_copy 28 (.iload_n 3) 1 29 := ⟨by decide +kernel, rfl⟩
theorem eX0_copy_29 : Dc cX0_copy 29 (.aaload) 1 30 := ⟨by decide +kernel, rfl⟩
theorem eX0_copy_30 : Dc cX0_copy 30 (.astore 7) 2 32 := ⟨by decide +kernel, rfl⟩
theorem eX0_copy_32 : Dc cX0_copy 32 (.aload 6) 2 34 := ⟨by decide +kernel, rfl⟩
theorem eX0_copy_34 : Db cX0_copy 34 (fun o => .ifnull o) 42 37 := ⟨8, by decide +kernel, by decide, rfl⟩
theorem eX0_copy_37 : Dc cX0_copy 37 (.aload 7) 2 39 := ⟨by decide +kernel, rfl⟩
theorem eX0_copy_39 : Db cX0_copy 39 (fun o => .ifnonnull o) 45 42 := ⟨6, by decide +kernel, by decide, rfl⟩
theorem eX0_copy_42 : Dc cX0_copy 42 (.bipush (-11)) 2 44 := ⟨by decide +kernel, rfl⟩
theorem eX0_copy_44 : Dc cX0_copy 44 (.ireturn) 1 45 := ⟨by decide +kernel, rfl⟩
theorem eX0_copy_45 : Dc cX0_copy 45 (.aload 6) 2 47 := ⟨by decide +kernel, rfl⟩
theorem eX0_copy_47 : Dc cX0_copy 47 (.invokevirtual 570) 3 50 := ⟨by decide +kernel, rfl⟩
theorem eX0_copy_50 : Dc cX0_copy 50 (.aload 7) 2 52 := ⟨by decide +kernel, rfl⟩
theorem eX0_copy_52 : Dc cX0_copy 52 (.invokevirtual 570) 3 55 := ⟨by decide +kernel, rfl⟩
theorem eX0_copy_55 : Db cX0_copy 55 (fun o => .if_icmp .eq o) 61 58 := ⟨6, by decide +kernel, by decide, rfl⟩
theorem eX0_copy_58 : Dc cX0_copy 58 (.bipush (-13)) 2 60 := ⟨by decide +kernel, rfl⟩
theorem eX0_copy_60 : Dc cX0_copy 60 (.ireturn) 1 61 := ⟨by decide +kernel, rfl⟩
theorem eX0_copy_61 : Dc cX0_copy 61 (.iload 5) 2 63 := ⟨by decide +kernel, rfl⟩
theorem eX0_copy_63 : Db cX0_copy 63 (fun o => .ifCond .lt o) 100 66 := ⟨37, by decide +kernel, by decide, rfl⟩
theorem eX0_copy_66 : Dc cX0_copy 66 (.iload_n 2) 1 67 := ⟨by decide +kernel, rfl⟩
theorem eX0_copy_67 : Db cX0_copy 67 (fun o => .ifCond .lt o) 100 70 := ⟨33, by decide +kernel, by decide, rfl⟩
theorem eX0_copy_70 : Dc cX0_copy 70 (.iload 4) 2 72 := ⟨by decide +kernel, rfl⟩
theorem eX0_copy_72 : Db cX0_copy 72 (fun o => .ifCond .lt o) 100 75 := ⟨28, by decide +kernel, by decide, rfl⟩
theorem eX0_copy_75 : Dc cX0_copy 75 (.iload_n 2) 1 76 := ⟨by decide +kernel, rfl⟩
theorem eX0_copy_76 : Dc cX0_copy 76 (.aload 6) 2 78 := ⟨by decide +kernel, rfl⟩
theorem eX0_copy_78 : Dc cX0_copy 78 (.invokevirtual 210) 3 81 := ⟨by decide +kernel, rfl⟩
theorem eX0_copy_81 : Dc cX0_copy 81 (.iload 5) 2 83 := ⟨by decide +kernel, rfl⟩
theorem eX0_copy_83 : Dc cX0_copy 83 (.isub) 1 84 := ⟨by decide +kernel, rfl⟩
theorem eX0_copy_84 : Db cX0_copy 84 (fun o => .if_icmp .gt o) 100 87 := ⟨16, by decide +kernel, by decide, rfl⟩
theorem eX0_copy_87 : Dc cX0_copy 87 (.iload 4) 2 89 := ⟨by decide +kernel, rfl⟩
theorem eX0_copy_89 : Dc cX0_copy 89 (.aload 7) 2 91 := ⟨by decide +kernel, rfl⟩
theorem eX0_copy_91 : Dc cX0_copy 91 (.invokevirtual 210) 3 94 := ⟨by decide +kernel, rfl⟩
theorem eX0_copy_94 : Dc cX0_copy 94 (.iload 5) 2 96 := ⟨by decide +kernel, rfl⟩
theorem eX0_copy_96 : Dc cX0_copy 96 (.isub) 1 97 := ⟨by decide +kernel, rfl⟩
theorem eX0_copy_97 : Db cX0_copy 97 (fun o => .if_icmp .le o) 103 100 := ⟨6, by decide +kernel, by decide, rfl⟩
theorem eX0_copy_100 : Dc cX0_copy 100 (.bipush (-12)) 2 102 := ⟨by decide +kernel, rfl⟩
theorem eX0_copy_102 : Dc cX0_copy 102 (.ireturn) 1 103 := ⟨by decide +kernel, rfl⟩
theorem eX0_copy_103 : Dc cX0_copy 103 (.aload 6) 2 105 := ⟨by decide +kernel, rfl⟩
theorem eX0_copy_105 : Dc cX0_copy 105 (.iload_n 2) 1 106 := ⟨by decide +kernel, rfl⟩
theorem eX0_copy_106 : Dc cX0_copy 106 (.aload 7) 2 108 := ⟨by decide +kernel, rfl⟩
theorem eX0_copy_108 : Dc cX0_copy 108 (.iload 4) 2 110 := ⟨by decide +kernel, rfl⟩
theorem eX0_copy_110 : Dc cX0_copy 110 (.iload 5) 2 112 := ⟨by decide +kernel, rfl⟩
theorem eX0_copy_112 : Dc cX0_copy 112 (.invokevirtual 573) 3 115 := ⟨by decide +kernel, rfl⟩
theorem eX0_copy_115 : Dc cX0_copy 115 (.iload 5) 2 117 := ⟨by decide +kernel, rfl⟩
theorem eX0_copy_117 : Dc cX0_copy 117 (.ireturn) 1 118 := ⟨by decide +kernel, rfl⟩
