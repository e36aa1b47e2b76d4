set_option maxRecDepth 100000
theorem eX2_call_0 : Dc cX2_call 0 (.aload_n 0) 1 1 := ⟨by decide +kernel, rfl⟩
theorem eX2_call_1 : Dc cX2_call 1 (.iload_n 1) 1 2 := ⟨by decide +kernel, rfl⟩
theorem eX2_call_2 : Dc cX2_call 2 (.invokevirtual 241) 3 5 := ⟨by decide +kernel, rfl⟩
theorem eX2_call_5 : Db cX2_call 5 (fun o => .ifCond .ne o) 10 8 := ⟨5, by decide +kernel, by decide, rfl⟩
theorem eX2_call_8 : Dc cX2_call 8 (.iconst (-1)) 1 9 := ⟨by decide +kernel, rfl⟩
theorem eX2_call_9 : Dc cX2_call 9 (.ireturn) 1 10 := ⟨by decide +kernel, rfl⟩
theorem eX2_call_10 : Dc cX2_call 10 (.iload_n 2) 1 11 := ⟨by decide +kernel, rfl⟩
theorem eX2_call_11 : Dc cX2_call 11 (.iconst 1) 1 12 := ⟨by decide +kernel, rfl⟩
theorem eX2_call_12 : Dc cX2_call 12 (.aload_n 0) 1 13 := ⟨by decide +kernel, rfl⟩
theorem eX2_call_13 : Dc cX2_call 13 (.iconst 3) 1 14 := ⟨by decide +kernel, rfl⟩
theorem eX2_call_14 : Dc cX2_call 14 (.aload_n 0) 1 15 := ⟨by decide +kernel, rfl⟩
theorem eX2_call_15 : Dc cX2_call 15 (.getfield 8) 3 18 := ⟨by decide +kernel, rfl⟩
theorem eX2_call_18 : Dc cX2_call 18 (.iconst 0) 1 19 := ⟨by decide +kernel, rfl⟩
theorem eX2_call_19 : Dc cX2_call 19 (.iaload) 1 20 := ⟨by decide +kernel, rfl⟩
theorem eX2_call_20 : Dc cX2_call 20 (.invokevirtual 152) 3 23 := ⟨by decide +kernel, rfl⟩
theorem eX2_call_23 : Dc cX2_call 23 (.invokestatic 58) 3 26 := ⟨by decide +kernel, rfl⟩
theorem eX2_call_26 : Db cX2_call 26 (fun o => .ifCond .ne o) 32 29 := ⟨6, by decide +kernel, by decide, rfl⟩
theorem eX2_call_29 : Dc cX2_call 29 (.bipush (-2)) 2 31 := ⟨by decide +kernel, rfl⟩
theorem eX2_call_31 : Dc cX2_call 31 (.ireturn) 1 32 := ⟨by decide +kernel, rfl⟩
theorem eX2_call_32 : Dc cX2_call 32 (.aload_n 0) 1 33 := ⟨by decide +kernel, rfl⟩
theorem eX2_call_33 : Dc cX2_call 33 (.iload_n 1) 1 34 := ⟨by decide +kernel, rfl⟩
theorem eX2_call_34 : Dc cX2_call 34 (.invokevirtual 244) 3 37 := ⟨by decide +kernel, rfl⟩
theorem eX2_call_37 : Db cX2_call 37 (fun o => .ifCond .ne o) 44 40 := ⟨7, by decide +kernel, by decide, rfl⟩
theorem eX2_call_40 : Dc cX2_call 40 (.iconst 1) 1 41 := ⟨by decide +kernel, rfl⟩
theorem eX2_call_41 : Db cX2_call 41 (fun o => .goto o) 45 44 := ⟨4, by decide +kernel, by decide, rfl⟩
theorem eX2_call_44 : Dc cX2_call 44 (.iconst 0) 1 45 := ⟨by decide +kernel, rfl⟩
theorem eX2_call_45 : Dc cX2_call 45 (.istore_n 3) 1 46 := ⟨by decide +kernel, rfl⟩
theorem eX2_call_46 : Dc cX2_call 46 (.iconst 0) 1 47 := ⟨by decide +kernel, rfl⟩
theorem eX2_call_47 : Dc cX2_call 47 (.istore 4) 2 49 := ⟨by decide +kernel, rfl⟩
theorem eX2_call_49 : Dc cX2_call 49 (.iload 4) 2 51 := ⟨by decide +kernel, rfl⟩
theorem eX2_call_51 : Dc cX2_call 51 (.aload_n 0) 1 52 := ⟨by decide +kernel, rfl⟩
theorem eX2_call_52 : Dc cX2_call 52 (.getfield 8) 3 55 := ⟨by decide +kernel, rfl⟩
theorem eX2_call_55 : Dc cX2_call 55 (.iconst 2) 1 56 := ⟨by decide +kernel, rfl⟩
theorem eX2_call_56 : Dc cX2_call 56 (.iaload) 1 57 := ⟨by decide +kernel, rfl⟩
theorem eX2_call_57 : Db cX2_call 57 (fun o => .if_icmp .ge o) 138 60 := ⟨81, by decide +kernel, by decide, rfl⟩
theorem eX2_call_60 : Dc cX2_call 60 (.iload_n 3) 1 61 := ⟨by decide +kernel, rfl⟩
theorem eX2_call_61 : Db cX2_call 61 (fun o => .ifCond .eq o) 130 64 := ⟨69, by decide +kernel, by decide, rfl⟩
theorem eX2_call_64 : Dc cX2_call 64 (.aload_n 0) 1 65 := ⟨by decide +kernel, rfl⟩
theorem eX2_call_65 : Dc cX2_call 65 (.getfield 8) 3 68 := ⟨by decide +kernel, rfl⟩
theorem eX2_call_68 : Dc cX2_call 68 (.sipush 370) 3 71 := ⟨by decide +kernel, rfl⟩
theorem eX2_call_71 : Dc cX2_call 71 (.iload 4) 2 73 := ⟨by decide +kernel, rfl⟩
theorem eX2_call_73 : Dc cX2_call 73 (.iadd) 1 74 := ⟨by decide +kernel, rfl⟩
theorem eX2_call_74 : Dc cX2_call 74 (.iaload) 1 75 := ⟨by decide +kernel, rfl⟩
theorem eX2_call_75 : Dc cX2_call 75 (.iconst 4) 1 76 := ⟨by decide +kernel, rfl⟩
theorem eX2_call_76 : Db cX2_call 76 (fun o => .if_icmp .ne o) 126 79 := ⟨50, by decide +kernel, by decide, rfl⟩
theorem eX2_call_79 : Dc cX2_call 79 (.aload_n 0) 1 80 := ⟨by decide +kernel, rfl⟩
theorem eX2_call_80 : Dc cX2_call 80 (.getfield 8) 3 83 := ⟨by decide +kernel, rfl⟩
theorem eX2_call_83 : Dc cX2_call 83 (.sipush 430) 3 86 := ⟨by decide +kernel, rfl⟩
theorem eX2_call_86 : Dc cX2_call 86 (.iload 4) 2 88 := ⟨by decide +kernel, rfl⟩
theorem eX2_call_88 : Dc cX2_call 88 (.iadd) 1 89 := ⟨by decide +kernel, rfl⟩
theorem eX2_call_89 : Dc cX2_call 89 (.iaload) 1 90 := ⟨by decide +kernel, rfl⟩
theorem eX2_call_90 : Dc cX2_call 90 (.iload_n 1) 1 91 := ⟨by decide +kernel, rfl⟩
theorem eX2_call_91 : Db cX2_call 91 (fun o => .if_icmp .ne o) 126 94 := ⟨35, by decide +kernel, by decide, rfl⟩
theorem eX2_call_94 : Dc cX2_call 94 (.aload_n 0) 1 95 := ⟨by decide +kernel, rfl⟩
theorem eX2_call_95 : Dc cX2_call 95 (.getfield 8) 3 98 := ⟨by decide +kernel, rfl⟩
theorem eX2_call_98 : Dc cX2_call 98 (.iconst 0) 1 99 := ⟨by decide +kernel, rfl⟩
theorem eX2_call_99 : Dc cX2_call 99 (.iaload) 1 100 := ⟨by decide +kernel, rfl⟩
theorem eX2_call_100 : Dc cX2_call 100 (.aload_n 0) 1 101 := ⟨by decide +kernel, rfl⟩
theorem eX2_call_101 : Dc cX2_call 101 (.getfield 8) 3 104 := ⟨by decide +kernel, rfl⟩
theorem eX2_call_104 : Dc cX2_call 104 (.sipush 490) 3 107 := ⟨by decide +kernel, rfl⟩
theorem eX2_call_107 : Dc cX2_call 107 (.iload 4) 2 109 := ⟨by decide +kernel, rfl⟩
theorem eX2_call_109 : Dc cX2_call 109 (.iadd) 1 110 := ⟨by decide +kernel, rfl⟩
theorem eX2_call_110 : Dc cX2_call 110 (.iaload) 1 111 := ⟨by decide +kernel, rfl⟩
theorem eX2_call_111 : Dc cX2_call 111 (.isub) 1 112 := ⟨by decide +kernel, rfl⟩
theorem eX2_call_112 : Dc cX2_call 112 (.aload_n 0) 1 113 := ⟨by decide +kernel, rfl⟩
theorem eX2_call_113 : Dc cX2_call 113 (.iconst 4) 1 114 := ⟨by decide +kernel, rfl⟩
theorem eX2_call_114 : Dc cX2_call 114 (.aload_n 0) 1 115 := ⟨by decide +kernel, rfl⟩
theorem eX2_call_115 : Dc cX2_call 115 (.getfield 8) 3 118 := ⟨by decide +kernel, rfl⟩
theorem eX2_call_118 : Dc cX2_call 118 (.iconst 0) 1 119 := ⟨by decide +kernel, rfl⟩
theorem eX2_call_119 : Dc cX2_call 119 (.iaload) 1 120 := ⟨by decide +kernel, rfl⟩
theorem eX2_call_120 : Dc cX2_call 120 (.invokevirtual 152) 3 123 := ⟨by decide +kernel, rfl⟩
theorem eX2_call_123 : Db cX2_call 123 (fun o => .if_icmp .lt o) 130 126 := ⟨7, by decide +kernel, by decide, rfl⟩
theorem eX2_call_126 : Dc cX2_call 126 (.iconst 1) 1 127 := ⟨by decide +kernel, rfl⟩
theorem eX2_call_127 : Db cX2_call 127 (fun o => .goto o) 131 130 := ⟨4, by decide +kernel, by decide, rfl⟩
theorem eX2_call_130 : Dc cX2_call 130 (.iconst 0) 1 131 := ⟨by decide +kernel, rfl⟩
theorem eX2_call_131 : Dc cX2_call 131 (.istore_n 3) 1 132 := ⟨by decide +kernel, rfl⟩
theorem eX2_call_132 : Dc cX2_call 132 (.iinc 4 1) 3 135 := ⟨by decide +kernel, rfl⟩
theorem eX2_call_135 : Db cX2_call 135 (fun o => .goto o) 49 138 := ⟨-86, by decide +kernel, by decide, rfl⟩
theorem eX2_call_138 : Dc cX2_call 138 (.iload_n 3) 1 139 := ⟨by decide +kernel, rfl⟩
theorem eX2_call_139 : Db cX2_call 139 (fun o => .ifCond .ne o) 145 142 := ⟨6, by decide +kernel, by decide, rfl⟩
theorem eX2_call_142 : Dc cX2_call 142 (.bipush (-3)) 2 144 := ⟨by decide +kernel, rfl⟩
theorem eX2_call_144 : Dc cX2_call 144 (.ireturn) 1 145 := ⟨by decide +kernel, rfl⟩
theorem eX2_call_145 : Dc cX2_call 145 (.aload_n 0) 1 146 := ⟨by decide +kernel, rfl⟩
theorem eX2_call_146 : Dc cX2_call 146 (.getfield 8) 3 149 := ⟨by decide +kernel, rfl⟩
theorem eX2_call_149 : Dc cX2_call 149 (.iconst 2) 1 150 := ⟨by decide +kernel, rfl⟩
theorem eX2_call_150 : Dc cX2_call 150 (.iaload) 1 151 := ⟨by decide +kernel, rfl⟩
theorem eX2_call_151 : Dc cX2_call 151 (.bipush 60) 2 153 := ⟨by decide +kernel, rfl⟩
theorem eX2_call_153 : Db cX2_call 153 (fun o => .if_icmp .ne o) 161 156 := ⟨8, by decide +kernel, by decide, rfl⟩
theorem eX2_call_156 : Dc cX2_call 156 (.bipush (-4)) 2 158 := ⟨by decide +kernel, rfl⟩
theorem eX2_call_158 : Db cX2_call 158 (fun o => .goto o) 171 161 := ⟨13, by decide +kernel, by decide, rfl⟩
theorem eX2_call_161 : Dc cX2_call 161 (.aload_n 0) 1 162 := ⟨by decide +kernel, rfl⟩
theorem eX2_call_162 : Dc cX2_call 162 (.iconst 4) 1 163 := ⟨by decide +kernel, rfl⟩
theorem eX2_call_163 : Dc cX2_call 163 (.iload_n 1) 1 164 := ⟨by decide +kernel, rfl⟩
theorem eX2_call_164 : Dc cX2_call 164 (.iconst (-1)) 1 165 := ⟨by decide +kernel, rfl⟩
theorem eX2_call_165 : Dc cX2_call 165 (.iconst (-1)) 1 166 := ⟨by decide +kernel, rfl⟩
theorem eX2_call_166 : Dc cX2_call 166 (.iconst (-1)) 1 167 := ⟨by decide +kernel, rfl⟩
theorem eX2_call_167 : Dc cX2_call 167 (.iload_n 2) 1 168 := ⟨by decide +kernel, rfl⟩
theorem eX2_call_168 : Dc cX2_call 168 (.invokevirtual 158) 3 171 := ⟨by decide +kernel, rfl⟩
theorem eX2_call_171 : Dc cX2_call 171 (.ireturn) 1 172 := ⟨by decide +kernel, rfl⟩
theorem eX2_lend_0 : Dc cX2_lend 0 (.aload_n 0) 1 1 := ⟨by decide +kernel, rfl⟩
theorem eX2_lend_1 : Dc cX2_lend 1 (.iload_n 1) 1 2 := ⟨by decide +kernel, rfl⟩
theorem eX2_lend_2 : Dc cX2_lend 2 (.invokevirtual 241) 3 5 := ⟨by decide +kernel, rfl⟩
theorem eX2_lend_5 : Db cX2_lend 5 (fun o => .ifCond .eq o) 15 8 := ⟨10, by decide +kernel, by decide, rfl⟩
theorem eX2_lend_8 : Dc cX2_lend 8 (.iload_n 2) 1 9 := ⟨by decide +kernel, rfl⟩
theorem eX2_lend_9 : Dc cX2_lend 9 (.invokestatic 69) 3 12 := ⟨by decide +kernel, rfl⟩
theorem eX2_lend_12 : Db cX2_lend 12 (fun o => .ifCond .ne o) 17 15 := ⟨5, by decide +kernel, by decide, rfl⟩
theorem eX2_lend_15 : Dc cX2_lend 15 (.iconst (-1)) 1 16 := ⟨by decide +kernel, rfl⟩
theorem eX2_lend_16 : Dc cX2_lend 16 (.ireturn) 1 17 := ⟨by decide +kernel, rfl⟩
theorem eX2_lend_17 : Dc cX2_lend 17 (.iload_n 3) 1 18 := ⟨by decide +kernel, rfl⟩
theorem eX2_lend_18 : Dc cX2_lend 18 (.iconst 1) 1 19 := ⟨by decide +kernel, rfl⟩
theorem eX2_lend_19 : Dc cX2_lend 19 (.sipush 9999) 3 22 := ⟨by decide +kernel, rfl⟩
theorem eX2_lend_22 : Dc cX2_lend 22 (.invokestatic 58) 3 25 := ⟨by decide +kernel, rfl⟩
theorem eX2_lend_25 : Db cX2_lend 25 (fun o => .ifCond .ne o) 31 28 := ⟨6, by decide +kernel, by decide, rfl⟩
theorem eX2_lend_28 : Dc cX2_lend 28 (.bipush (-2)) 2 30 := ⟨by decide +kernel, rfl⟩
theorem eX2_lend_30 : Dc cX2_lend 30 (.ireturn) 1 31 := ⟨by decide +kernel, rfl⟩
theorem eX2_lend_31 : Dc cX2_lend 31 (.aload_n 0) 1 32 := ⟨by decide +kernel, rfl⟩
theorem eX2_lend_32 : Dc cX2_lend 32 (.iload_n 1) 1 33 := ⟨by decide +kernel, rfl⟩
theorem eX2_lend_33 : Dc cX2_lend 33 (.invokevirtual 244) 3 36 := ⟨by decide +kernel, rfl⟩
theorem eX2_lend_36 : Db cX2_lend 36 (fun o => .ifCond .ne o) 53 39 := ⟨17, by decide +kernel, by decide, rfl⟩
theorem eX2_lend_39 : Dc cX2_lend 39 (.aload_n 0) 1 40 := ⟨by decide +kernel, rfl⟩
theorem eX2_lend_40 : Dc cX2_lend 40 (.getfield 8) 3 43 := ⟨by decide +kernel, rfl⟩
theorem eX2_lend_43 : Dc cX2_lend 43 (.sipush 192) 3 46 := ⟨by decide +kernel, rfl⟩
theorem eX2_lend_46 : Dc cX2_lend 46 (.iload_n 2) 1 47 := ⟨by decide +kernel, rfl⟩
theorem eX2_lend_47 : Dc cX2_lend 47 (.iadd) 1 48 := ⟨by decide +kernel, rfl⟩
theorem eX2_lend_48 : Dc cX2_lend 48 (.iaload) 1 49 := ⟨by decide +kernel, rfl⟩
theorem eX2_lend_49 : Dc cX2_lend 49 (.iload_n 3) 1 50 := ⟨by decide +kernel, rfl⟩
theorem eX2_lend_50 : Db cX2_lend 50 (fun o => .if_icmp .ge o) 56 53 := ⟨6, by decide +kernel, by decide, rfl⟩
theorem eX2_lend_53 : Dc cX2_lend 53 (.bipush (-3)) 2 55 := ⟨by decide +kernel, rfl⟩
theorem eX2_lend_55 : Dc cX2_lend 55 (.ireturn) 1 56 := ⟨by decide +kernel, rfl⟩
theorem eX2_lend_56 : Dc cX2_lend 56 (.aload_n 0) 1 57 := ⟨by decide +kernel, rfl⟩
theorem eX2_lend_57 : Dc cX2_lend 57 (.getfield 8) 3 60 := ⟨by decide +kernel, rfl⟩
theorem eX2_lend_60 : Dc cX2_lend 60 (.iconst 2) 1 61 := ⟨by decide +kernel, rfl⟩
theorem eX2_lend_61 : Dc cX2_lend 61 (.iaload) 1 62 := ⟨by decide +kernel, rfl⟩
theorem eX2_lend_62 : Dc cX2_lend 62 (.bipush 60) 2 64 := ⟨by decide +kernel, rfl⟩
theorem eX2_lend_64 : Db cX2_lend 64 (fun o => .if_icmp .ne o) 70 67 := ⟨6, by decide +kernel, by decide, rfl⟩
theorem eX2_lend_67 : Dc cX2_lend 67 (.bipush (-4)) 2 69 := ⟨by decide +kernel, rfl⟩
theorem eX2_lend_69 : Dc cX2_lend 69 (.ireturn) 1 70 := ⟨by decide +kernel, rfl⟩
theorem eX2_lend_70 : Dc cX2_lend 70 (.aload_n 0) 1 71 := ⟨by decide +kernel, rfl⟩
theorem eX2_lend_71 : Dc cX2_lend 71 (.getfield 8) 3 74 := ⟨by decide +kernel, rfl⟩
theorem eX2_lend_74 : Dc cX2_lend 74 (.sipush 192) 3 77 := ⟨by decide +kernel, rfl⟩
theorem eX2_lend_77 : Dc cX2_lend 77 (.iload_n 2) 1 78 := ⟨by decide +kernel, rfl⟩
theorem eX2_lend_78 : Dc cX2_lend 78 (.iadd) 1 79 := ⟨by decide +kernel, rfl⟩
theorem eX2_lend_79 : Dc cX2_lend 79 (.dup2) 1 80 := ⟨by decide +kernel, rfl⟩
theorem eX2_lend_80 : Dc cX2_lend 80 (.iaload) 1 81 := ⟨by decide +kernel, rfl⟩
theorem eX2_lend_81 : Dc cX2_lend 81 (.iload_n 3) 1 82 := ⟨by decide +kernel, rfl⟩
theorem eX2_lend_82 : Dc cX2_lend 82 (.isub) 1 83 := ⟨by decide +kernel, rfl⟩
theorem eX2_lend_83 : Dc cX2_lend 83 (.iastore) 1 84 := ⟨by decide +kernel, rfl⟩
theorem eX2_lend_84 : Dc cX2_lend 84 (.aload_n 0) 1 85 := ⟨by decide +kernel, rfl⟩
theorem eX2_lend_85 : Dc cX2_lend 85 (.getfield 8) 3 88 := ⟨by decide +kernel, rfl⟩
theorem eX2_lend_88 : Dc cX2_lend 88 (.sipush 11502) 3 91 := ⟨by decide +kernel, rfl⟩
theorem eX2_lend_91 : Dc cX2_lend 91 (.aload_n 0) 1 92 := ⟨by decide +kernel, rfl⟩
theorem eX2_lend_92 : Dc cX2_lend 92 (.iload_n 1) 1 93 := ⟨by decide +kernel, rfl⟩
theorem eX2_lend_93 : Dc cX2_lend 93 (.invokevirtual 238) 3 96 := ⟨by decide +kernel, rfl⟩
theorem eX2_lend_96 : Dc cX2_lend 96 (.iadd) 1 97 := ⟨by decide +kernel, rfl⟩
theorem eX2_lend_97 : Dc cX2_lend 97 (.dup2) 1 98 := ⟨by decide +kernel, rfl⟩
theorem eX2_lend_98 : Dc cX2_lend 98 (.iaload) 1 99 := ⟨by decide +kernel, rfl⟩
theorem eX2_lend_99 : Dc cX2_lend 99 (.iload_n 3) 1 100 := ⟨by decide +kernel, rfl⟩
theorem eX2_lend_100 : Dc cX2_lend 100 (.iadd) 1 101 := ⟨by decide +kernel, rfl⟩
theorem eX2_lend_101 : Dc cX2_lend 101 (.iastore) 1 102 := ⟨by decide +kernel, rfl⟩
theorem eX2_lend_102 : Dc cX2_lend 102 (.aload_n 0) 1 103 := ⟨by decide +kernel, rfl⟩
theorem eX2_lend_103 : Dc cX2_lend 103 (.iconst 5) 1 104 := ⟨by decide +kernel, rfl⟩
theorem eX2_lend_104 : Dc cX2_lend 104 (.iload_n 1) 1 105 := ⟨by decide +kernel, rfl⟩
theorem eX2_lend_105 : Dc cX2_lend 105 (.iload_n 2) 1 106 := ⟨by decide +kernel, rfl⟩
theorem eX2_lend_106 : Dc cX2_lend 106 (.iconst (-1)) 1 107 := ⟨by decide +kernel, rfl⟩
theorem eX2_lend_107 : Dc cX2_lend 107 (.iconst (-1)) 1 108 := ⟨by decide +kernel, rfl⟩
theorem eX2_lend_108 : Dc cX2_lend 108 (.iload_n 3) 1 109 := ⟨by decide +kernel, rfl⟩
theorem eX2_lend_109 : Dc cX2_lend 109 (.invokevirtual 158) 3 112 := ⟨by decide +kernel, rfl⟩
theorem eX2_lend_112 : Dc cX2_lend 112 (.ireturn) 1 113 := ⟨by decide +kernel, rfl⟩
theorem eX2_along_0 : Dc cX2_along 0 (.iload_n 1) 1 1 := ⟨by decide +kernel, rfl⟩
theorem eX2_along_1 : Dc cX2_along 1 (.iconst 0) 1 2 := ⟨by decide +kernel, rfl⟩
theorem eX2_along_2 : Dc cX2_along 2 (.iconst 1) 1 3 := ⟨by decide +kernel, rfl⟩
theorem eX2_along_3 : Dc cX2_along 3 (.invokestatic 58) 3 6 := ⟨by decide +kernel, rfl⟩
theorem eX2_along_6 : Db cX2_along 6 (fun o => .ifCond .eq o) 31 9 := ⟨25, by decide +kernel, by decide, rfl⟩
theorem eX2_along_9 : Dc cX2_along 9 (.iload_n 1) 1 10 := ⟨by decide +kernel, rfl⟩
theorem eX2_along_10 : Db cX2_along 10 (fun o => .ifCond .ne o) 23 13 := ⟨13, by decide +kernel, by decide, rfl⟩
theorem eX2_along_13 : Dc cX2_along 13 (.iload_n 2) 1 14 := ⟨by decide +kernel, rfl⟩
theorem eX2_along_14 : Dc cX2_along 14 (.invokestatic 69) 3 17 := ⟨by decide +kernel, rfl⟩
theorem eX2_along_17 : Db cX2_along 17 (fun o => .ifCond .ne o) 33 20 := ⟨16, by decide +kernel, by decide, rfl⟩
theorem eX2_along_20 : Db cX2_along 20 (fun o => .goto o) 31 23 := ⟨11, by decide +kernel, by decide, rfl⟩
theorem eX2_along_23 : Dc cX2_along 23 (.aload_n 0) 1 24 := ⟨by decide +kernel, rfl⟩
theorem eX2_along_24 : Dc cX2_along 24 (.iload_n 2) 1 25 := ⟨by decide +kernel, rfl⟩
theorem eX2_along_25 : Dc cX2_along 25 (.invokevirtual 241) 3 28 := ⟨by decide +kernel, rfl⟩
theorem eX2_along_28 : Db cX2_along 28 (fun o => .ifCond .ne o) 33 31 := ⟨5, by decide +kernel, by decide, rfl⟩
theorem eX2_along_31 : Dc cX2_along 31 (.iconst (-1)) 1 32 := ⟨by decide +kernel, rfl⟩
theorem eX2_along_32 : Dc cX2_along 32 (.ireturn) 1 33 := ⟨by decide +kernel, rfl⟩
theorem eX2_along_33 : Dc cX2_along 33 (.aload_n 0) 1 34 := ⟨by decide +kernel, rfl⟩
theorem eX2_along_34 : Dc cX2_along 34 (.invokevirtual 257) 3 37 := ⟨by decide +kernel, rfl⟩
theorem eX2_along_37 : Dc cX2_along 37 (.aload_n 0) 1 38 := ⟨by decide +kernel, rfl⟩
theorem eX2_along_38 : Dc cX2_along 38 (.iload_n 1) 1 39 := ⟨by decide +kernel, rfl⟩
theorem eX2_along_39 : Db cX2_along 39 (fun o => .ifCond .ne o) 46 42 := ⟨7, by decide +kernel, by decide, rfl⟩
theorem eX2_along_42 : Dc cX2_along 42 (.iload_n 2) 1 43 := ⟨by decide +kernel, rfl⟩
theorem eX2_along_43 : Db cX2_along 43 (fun o => .goto o) 54 46 := ⟨11, by decide +kernel, by decide, rfl⟩
theorem eX2_along_46 : Dc cX2_along 46 (.bipush 8) 2 48 := ⟨by decide +kernel, rfl⟩
theorem eX2_along_48 : Dc cX2_along 48 (.aload_n 0) 1 49 := ⟨by decide +kernel, rfl⟩
theorem eX2_along_49 : Dc cX2_along 49 (.iload_n 2) 1 50 := ⟨by decide +kernel, rfl⟩
theorem eX2_along_50 : Dc cX2_along 50 (.invokevirtual 238) 3 53 := ⟨by decide +kernel, rfl⟩
theorem eX2_along_53 : Dc cX2_along 53 (.iadd) 1 54 := ⟨by decide +kernel, rfl⟩
theorem eX2_along_54 : Dc cX2_along 54 (.invokevirtual 260) 3 57 := ⟨by decide +kernel, rfl⟩
theorem eX2_along_57 : Dc cX2_along 57 (.l2i) 1 58 := ⟨by decide +kernel, rfl⟩
theorem eX2_along_58 : Dc cX2_along 58 (.ireturn) 1 59 := ⟨by decide +kernel, rfl⟩
theorem eX2_settles_0 : Dc cX2_settles 0 (.iconst 0) 1 1 := ⟨by decide +kernel, rfl⟩
theorem eX2_settles_1 : Dc cX2_settles 1 (.istore_n 1) 1 2 := ⟨by decide +kernel, rfl⟩
theorem eX2_settles_2 : Dc cX2_settles 2 (.iload_n 1) 1 3 := ⟨by decide +kernel, rfl⟩
theorem eX2_settles_3 : Dc cX2_settles 3 (.sipush 400) 3 6 := ⟨by decide +kernel, rfl⟩
theorem eX2_settles_6 : Db cX2_settles 6 (fun o => .if_icmp .ge o) 29 9 := ⟨23, by decide +kernel, by decide, rfl⟩
theorem eX2_settles_9 : Dc cX2_settles 9 (.aload_n 0) 1 10 := ⟨by decide +kernel, rfl⟩
theorem eX2_settles_10 : Dc cX2_settles 10 (.getfield 32) 3 13 := ⟨by decide +kernel, rfl⟩
theorem eX2_settles_13 : Dc cX2_settles 13 (.iload_n 1) 1 14 := ⟨by decide +kernel, rfl⟩
theorem eX2_settles_14 : Dc cX2_settles 14 (.lconst 0) 1 15 := ⟨by decide +kernel, rfl⟩
theorem eX2_settles_15 : Dc cX2_settles 15 (.lastore) 1 16 := ⟨by decide +kernel, rfl⟩
theorem eX2_settles_16 : Dc cX2_settles 16 (.aload_n 0) 1 17 := ⟨by decide +kernel, rfl⟩
theorem eX2_settles_17 : Dc cX2_settles 17 (.getfield 36) 3 20 := ⟨by decide +kernel, rfl⟩
theorem eX2_settles_20 : Dc cX2_settles 20 (.iload_n 1) 1 21 := ⟨by decide +kernel, rfl⟩
theorem eX2_settles_21 : Dc cX2_settles 21 (.lconst 0) 1 22 := ⟨by decide +kernel, rfl⟩
theorem eX2_settles_22 : Dc cX2_settles 22 (.lastore) 1 23 := ⟨by decide +kernel, rfl⟩
theorem eX2_settles_23 : Dc cX2_settles 23 (.iinc 1 1) 3 26 := ⟨by decide +kernel, rfl⟩
theorem eX2_settles_26 : Db cX2_settles 26 (fun o => .goto o) 2 29 := ⟨-24, by decide +kernel, by decide, rfl⟩
theorem eX2_settles_29 : Dc cX2_settles 29 (.iconst 0) 1 30 := ⟨by decide +kernel, rfl⟩
theorem eX2_settles_30 : Dc cX2_settles 30 (.istore_n 1) 1 31 := ⟨by decide +kernel, rfl⟩
theorem eX2_settles_31 : Dc cX2_settles 31 (.iload_n 1) 1 32 := ⟨by decide +kernel, rfl⟩
theorem eX2_settles_32 : Dc cX2_settles 32 (.aload_n 0) 1 33 := ⟨by decide +kernel, rfl⟩
theorem eX2_settles_33 : Dc cX2_settles 33 (.getfield 8) 3 36 := ⟨by decide +kernel, rfl⟩
theorem eX2_settles_36 : Dc cX2_settles 36 (.iconst 2) 1 37 := ⟨by decide +kernel, rfl⟩
theorem eX2_settles_37 : Dc cX2_settles 37 (.iaload) 1 38 := ⟨by decide +kernel, rfl⟩
theorem eX2_settles_38 : Db cX2_settles 38 (fun o => .if_icmp .ge o) 224 41 := ⟨186, by decide +kernel, by decide, rfl⟩
theorem eX2_settles_41 : Dc cX2_settles 41 (.aload_n 0) 1 42 := ⟨by decide +kernel, rfl⟩
theorem eX2_settles_42 : Dc cX2_settles 42 (.getfield 8) 3 45 := ⟨by decide +kernel, rfl⟩
theorem eX2_settles_45 : Dc cX2_settles 45 (.sipush 790) 3 48 := ⟨by decide +kernel, rfl⟩
theorem eX2_settles_48 : Dc cX2_settles 48 (.iload_n 1) 1 49 := ⟨by decide +kernel, rfl⟩
theorem eX2_settles_49 : Dc cX2_settles 49 (.iadd) 1 50 := ⟨by decide +kernel, rfl⟩
theorem eX2_settles_50 : Dc cX2_settles 50 (.iaload) 1 51 := ⟨by decide +kernel, rfl⟩
theorem eX2_settles_51 : Db cX2_settles 51 (fun o => .ifCond .ne o) 141 54 := ⟨90, by decide +kernel, by decide, rfl⟩
theorem eX2_settles_54 : Dc cX2_settles 54 (.aload_n 0) 1 55 := ⟨by decide +kernel, rfl⟩
theorem eX2_settles_55 : Dc cX2_settles 55 (.getfield 8) 3 58 := ⟨by decide +kernel, rfl⟩
theorem eX2_settles_58 : Dc cX2_settles 58 (.sipush 370) 3 61 := ⟨by decide +kernel, rfl⟩
theorem eX2_settles_61 : Dc cX2_settles 61 (.iload_n 1) 1 62 := ⟨by decide +kernel, rfl⟩
theorem eX2_settles_62 : Dc cX2_settles 62 (.iadd) 1 63 := ⟨by decide +kernel, rfl⟩
theorem eX2_settles_63 : Dc cX2_settles 63 (.iaload) 1 64 := ⟨by decide +kernel, rfl⟩
theorem eX2_settles_64 : Dc cX2_settles 64 (.iconst 4) 1 65 := ⟨by decide +kernel, rfl⟩
theorem eX2_settles_65 : Db cX2_settles 65 (fun o => .if_icmp .ne o) 141 68 := ⟨76, by decide +kernel, by decide, rfl⟩
theorem eX2_settles_68 : Dc cX2_settles 68 (.aload_n 0) 1 69 := ⟨by decide +kernel, rfl⟩
theorem eX2_settles_69 : Dc cX2_settles 69 (.aload_n 0) 1 70 := ⟨by decide +kernel, rfl⟩
theorem eX2_settles_70 : Dc cX2_settles 70 (.getfield 8) 3 73 := ⟨by decide +kernel, rfl⟩
theorem eX2_settles_73 : Dc cX2_settles 73 (.sipush 430) 3 76 := ⟨by decide +kernel, rfl⟩
theorem eX2_settles_76 : Dc cX2_settles 76 (.iload_n 1) 1 77 := ⟨by decide +kernel, rfl⟩
theorem eX2_settles_77 : Dc cX2_settles 77 (.iadd) 1 78 := ⟨by decide +kernel, rfl⟩
theorem eX2_settles_78 : Dc cX2_settles 78 (.iaload) 1 79 := ⟨by decide +kernel, rfl⟩
theorem eX2_settles_79 : Dc cX2_settles 79 (.invokevirtual 238) 3 82 := ⟨by decide +kernel, rfl⟩
theorem eX2_settles_82 : Dc cX2_settles 82 (.istore_n 2) 1 83 := ⟨by decide +kernel, rfl⟩
theorem eX2_settles_83 : Dc cX2_settles 83 (.iconst 0) 1 84 := ⟨by decide +kernel, rfl⟩
theorem eX2_settles_84 : Dc cX2_settles 84 (.istore_n 3) 1 85 := ⟨by decide +kernel, rfl⟩
theorem eX2_settles_85 : Dc cX2_settles 85 (.iload_n 3) 1 86 := ⟨by decide +kernel, rfl⟩
theorem eX2_settles_86 : Dc cX2_settles 86 (.bipush 8) 2 88 := ⟨by decide +kernel, rfl⟩
theorem eX2_settles_88 : Db cX2_settles 88 (fun o => .if_icmp .ge o) 141 91 := ⟨53, by decide +kernel, by decide, rfl⟩
theorem eX2_settles_91 : Dc cX2_settles 91 (.aload_n 0) 1 92 := ⟨by decide +kernel, rfl⟩
theorem eX2_settles_92 : Dc cX2_settles 92 (.getfield 32) 3 95 := ⟨by decide +kernel, rfl⟩
theorem eX2_settles_95 : Dc cX2_settles 95 (.bipush 20) 2 97 := ⟨by decide +kernel, rfl⟩
theorem eX2_settles_97 : Dc cX2_settles 97 (.iload_n 3) 1 98 := ⟨by decide +kernel, rfl⟩
theorem eX2_settles_98 : Dc cX2_settles 98 (.imul) 1 99 := ⟨by decide +kernel, rfl⟩
theorem eX2_settles_99 : Dc cX2_settles 99 (.bipush 8) 2 101 := ⟨by decide +kernel, rfl⟩
theorem eX2_settles_101 : Dc cX2_settles 101 (.iadd) 1 102 := ⟨by decide +kernel, rfl⟩
theorem eX2_settles_102 : Dc cX2_settles 102 (.iload_n 2) 1 103 := ⟨by decide +kernel, rfl⟩
theorem eX2_settles_103 : Dc cX2_settles 103 (.iadd) 1 104 := ⟨by decide +kernel, rfl⟩
theorem eX2_settles_104 : Dc cX2_settles 104 (.dup2) 1 105 := ⟨by decide +kernel, rfl⟩
theorem eX2_settles_105 : Dc cX2_settles 105 (.laload) 1 106 := ⟨by decide +kernel, rfl⟩
theorem eX2_settles_106 : Dc cX2_settles 106 (.aload_n 0) 1 107 := ⟨by decide +kernel, rfl⟩
theorem eX2_settles_107 : Dc cX2_settles 107 (.getfield 8) 3 110 := ⟨by decide +kernel, rfl⟩
theorem eX2_settles_110 : Dc cX2_settles 110 (.sipush 730) 3 113 := ⟨by decide +kernel, rfl⟩
theorem eX2_settles_113 : Dc cX2_settles 113 (.iload_n 1) 1 114 := ⟨by decide +kernel, rfl⟩
theorem eX2_settles_114 : Dc cX2_settles 114 (.iadd) 1 115 := ⟨by decide +kernel, rfl⟩
theorem eX2_settles_115 : Dc cX2_settles 115 (.iaload) 1 116 := ⟨by decide +kernel, rfl⟩
theorem eX2_settles_116 : Dc cX2_settles 116 (.aload_n 0) 1 117 := ⟨by decide +kernel, rfl⟩
theorem eX2_settles_117 : Dc cX2_settles 117 (.getfield 8) 3 120 := ⟨by decide +kernel, rfl⟩
theorem eX2_settles_120 : Dc cX2_settles 120 (.sipush 11530) 3 123 := ⟨by decide +kernel, rfl⟩
theorem eX2_settles_123 : Dc cX2_settles 123 (.bipush 9) 2 125 := ⟨by decide +kernel, rfl⟩
theorem eX2_settles_125 : Dc cX2_settles 125 (.iload_n 2) 1 126 := ⟨by decide +kernel, rfl⟩
theorem eX2_settles_126 : Dc cX2_settles 126 (.imul) 1 127 := ⟨by decide +kernel, rfl⟩
theorem eX2_settles_127 : Dc cX2_settles 127 (.iadd) 1 128 := ⟨by decide +kernel, rfl⟩
theorem eX2_settles_128 : Dc cX2_settles 128 (.iload_n 3) 1 129 := ⟨by decide +kernel, rfl⟩
theorem eX2_settles_129 : Dc cX2_settles 129 (.iadd) 1 130 := ⟨by decide +kernel, rfl⟩
theorem eX2_settles_130 : Dc cX2_settles 130 (.iaload) 1 131 := ⟨by decide +kernel, rfl⟩
theorem eX2_settles_131 : Dc cX2_settles 131 (.imul) 1 132 := ⟨by decide +kernel, rfl⟩
theorem eX2_settles_132 : Dc cX2_settles 132 (.i2l) 1 133 := ⟨by decide +kernel, rfl⟩
theorem eX2_settles_133 : Dc cX2_settles 133 (.ladd) 1 134 := ⟨by decide +kernel, rfl⟩
theorem eX2_settles_134 : Dc cX2_settles 134 (.lastore) 1 135 := ⟨by decide +kernel, rfl⟩
theorem eX2_settles_135 : Dc cX2_settles 135 (.iinc 3 1) 3 138 := ⟨by decide +kernel, rfl⟩
theorem eX2_settles_138 : Db cX2_settles 138 (fun o => .goto o) 85 141 := ⟨-53, by decide +kernel, by decide, rfl⟩
theorem eX2_settles_141 : Dc cX2_settles 141 (.aload_n 0) 1 142 := ⟨by decide +kernel, rfl⟩
theorem eX2_settles_142 : Dc cX2_settles 142 (.getfield 8) 3 145 := ⟨by decide +kernel, rfl⟩
theorem eX2_settles_145 : Dc cX2_settles 145 (.sipush 790) 3 148 := ⟨by decide +kernel, rfl⟩
theorem eX2_settles_148 : Dc cX2_settles 148 (.iload_n 1) 1 149 := ⟨by decide +kernel, rfl⟩
theorem eX2_settles_149 : Dc cX2_settles 149 (.iadd) 1 150 := ⟨by decide +kernel, rfl⟩
theorem eX2_settles_150 : Dc cX2_settles 150 (.iaload) 1 151 := ⟨by decide +kernel, rfl⟩
theorem eX2_settles_151 : Db cX2_settles 151 (fun o => .ifCond .ne o) 218 154 := ⟨67, by decide +kernel, by decide, rfl⟩
theorem eX2_settles_154 : Dc cX2_settles 154 (.aload_n 0) 1 155 := ⟨by decide +kernel, rfl⟩
theorem eX2_settles_155 : Dc cX2_settles 155 (.getfield 8) 3 158 := ⟨by decide +kernel, rfl⟩
theorem eX2_settles_158 : Dc cX2_settles 158 (.sipush 370) 3 161 := ⟨by decide +kernel, rfl⟩
theorem eX2_settles_161 : Dc cX2_settles 161 (.iload_n 1) 1 162 := ⟨by decide +kernel, rfl⟩
theorem eX2_settles_162 : Dc cX2_settles 162 (.iadd) 1 163 := ⟨by decide +kernel, rfl⟩
theorem eX2_settles_163 : Dc cX2_settles 163 (.iaload) 1 164 := ⟨by decide +kernel, rfl⟩
theorem eX2_settles_164 : Dc cX2_settles 164 (.iconst 5) 1 165 := ⟨by decide +kernel, rfl⟩
theorem eX2_settles_165 : Db cX2_settles 165 (fun o => .if_icmp .ne o) 218 168 := ⟨53, by decide +kernel, by decide, rfl⟩
theorem eX2_settles_168 : Dc cX2_settles 168 (.aload_n 0) 1 169 := ⟨by decide +kernel, rfl⟩
theorem eX2_settles_169 : Dc cX2_settles 169 (.getfield 32) 3 172 := ⟨by decide +kernel, rfl⟩
theorem eX2_settles_172 : Dc cX2_settles 172 (.bipush 20) 2 174 := ⟨by decide +kernel, rfl⟩
theorem eX2_settles_174 : Dc cX2_settles 174 (.bipush 8) 2 176 := ⟨by decide +kernel, rfl⟩
theorem eX2_settles_176 : Dc cX2_settles 176 (.aload_n 0) 1 177 := ⟨by decide +kernel, rfl⟩
theorem eX2_settles_177 : Dc cX2_settles 177 (.aload_n 0) 1 178 := ⟨by decide +kernel, rfl⟩
theorem eX2_settles_178 : Dc cX2_settles 178 (.getfield 8) 3 181 := ⟨by decide +kernel, rfl⟩
theorem eX2_settles_181 : Dc cX2_settles 181 (.sipush 430) 3 184 := ⟨by decide +kernel, rfl⟩
theorem eX2_settles_184 : Dc cX2_settles 184 (.iload_n 1) 1 185 := ⟨by decide +kernel, rfl⟩
theorem eX2_settles_185 : Dc cX2_settles 185 (.iadd) 1 186 := ⟨by decide +kernel, rfl⟩
theorem eX2_settles_186 : Dc cX2_settles 186 (.iaload) 1 187 := ⟨by decide +kernel, rfl⟩
theorem eX2_settles_187 : Dc cX2_settles 187 (.invokevirtual 238) 3 190 := ⟨by decide +kernel, rfl⟩
theorem eX2_settles_190 : Dc cX2_settles 190 (.iadd) 1 191 := ⟨by decide +kernel, rfl⟩
theorem eX2_settles_191 : Dc cX2_settles 191 (.imul) 1 192 := ⟨by decide +kernel, rfl⟩
theorem eX2_settles_192 : Dc cX2_settles 192 (.aload_n 0) 1 193 := ⟨by decide +kernel, rfl⟩
theorem eX2_settles_193 : Dc cX2_settles 193 (.getfield 8) 3 196 := ⟨by decide +kernel, rfl⟩
theorem eX2_settles_196 : Dc cX2_settles 196 (.sipush 550) 3 199 := ⟨by decide +kernel, rfl⟩
theorem eX2_settles_199 : Dc cX2_settles 199 (.iload_n 1) 1 200 := ⟨by decide +kernel, rfl⟩
theorem eX2_settles_200 : Dc cX2_settles 200 (.iadd) 1 201 := ⟨by decide +kernel, rfl⟩
theorem eX2_settles_201 : Dc cX2_settles 201 (.iaload) 1 202 := ⟨by decide +kernel, rfl⟩
theorem eX2_settles_202 : Dc cX2_settles 202 (.iadd) 1 203 := ⟨by decide +kernel, rfl⟩
theorem eX2_settles_203 : Dc cX2_settles 203 (.dup2) 1 204 := ⟨by decide +kernel, rfl⟩
theorem eX2_settles_204 : Dc cX2_settles 204 (.laload) 1 205 := ⟨by decide +kernel, rfl⟩
theorem eX2_settles_205 : Dc cX2_settles 205 (.aload_n 0) 1 206 := ⟨by decide +kernel, rfl⟩
theorem eX2_settles_206 : Dc cX2_settles 206 (.getfield 8) 3 209 := ⟨by decide +kernel, rfl⟩
theorem eX2_settles_209 : Dc cX2_settles 209 (.sipush 730) 3 212 := ⟨by decide +kernel, rfl⟩
theorem eX2_settles_212 : Dc cX2_settles 212 (.iload_n 1) 1 213 := ⟨by decide +kernel, rfl⟩
theorem eX2_settles_213 : Dc cX2_settles 213 (.iadd) 1 214 := ⟨by decide +kernel, rfl⟩
theorem eX2_settles_214 : Dc cX2_settles 214 (.iaload) 1 215 := ⟨by decide +kernel, rfl⟩
theorem eX2_settles_215 : Dc cX2_settles 215 (.i2l) 1 216 := ⟨by decide +kernel, rfl⟩
theorem eX2_settles_216 : Dc cX2_settles 216 (.ladd) 1 217 := ⟨by decide +kernel, rfl⟩
theorem eX2_settles_217 : Dc cX2_settles 217 (.lastore) 1 218 := ⟨by decide +kernel, rfl⟩
theorem eX2_settles_218 : Dc cX2_settles 218 (.iinc 1 1) 3 221 := ⟨by decide +kernel, rfl⟩
theorem eX2_settles_221 : Db cX2_settles 221 (fun o => .goto o) 31 224 := ⟨-190, by decide +kernel, by decide, rfl⟩
theorem eX2_settles_224 : Dc cX2_settles 224 (.iconst 0) 1 225 := ⟨by decide +kernel, rfl⟩
theorem eX2_settles_225 : Dc cX2_settles 225 (.istore_n 1) 1 226 := ⟨by decide +kernel, rfl⟩
theorem eX2_settles_226 : Dc cX2_settles 226 (.iload_n 1) 1 227 := ⟨by decide +kernel, rfl⟩
theorem eX2_settles_227 : Dc cX2_settles 227 (.bipush 20) 2 229 := ⟨by decide +kernel, rfl⟩
theorem eX2_settles_229 : Db cX2_settles 229 (fun o => .if_icmp .ge o) 337 232 := ⟨108, by decide +kernel, by decide, rfl⟩
theorem eX2_settles_232 : Dc cX2_settles 232 (.aload_n 0) 1 233 := ⟨by decide +kernel, rfl⟩
theorem eX2_settles_233 : Dc cX2_settles 233 (.getfield 42) 3 236 := ⟨by decide +kernel, rfl⟩
theorem eX2_settles_236 : Dc cX2_settles 236 (.iload_n 1) 1 237 := ⟨by decide +kernel, rfl⟩
theorem eX2_settles_237 : Dc cX2_settles 237 (.iload_n 1) 1 238 := ⟨by decide +kernel, rfl⟩
theorem eX2_settles_238 : Dc cX2_settles 238 (.bipush 8) 2 240 := ⟨by decide +kernel, rfl⟩
theorem eX2_settles_240 : Db cX2_settles 240 (fun o => .if_icmp .ge o) 257 243 := ⟨17, by decide +kernel, by decide, rfl⟩
theorem eX2_settles_243 : Dc cX2_settles 243 (.aload_n 0) 1 244 := ⟨by decide +kernel, rfl⟩
theorem eX2_settles_244 : Dc cX2_settles 244 (.getfield 8) 3 247 := ⟨by decide +kernel, rfl⟩
theorem eX2_settles_247 : Dc cX2_settles 247 (.sipush 192) 3 250 := ⟨by decide +kernel, rfl⟩
theorem eX2_settles_250 : Dc cX2_settles 250 (.iload_n 1) 1 251 := ⟨by decide +kernel, rfl⟩
theorem eX2_settles_251 : Dc cX2_settles 251 (.iadd) 1 252 := ⟨by decide +kernel, rfl⟩
theorem eX2_settles_252 : Dc cX2_settles 252 (.iaload) 1 253 := ⟨by decide +kernel, rfl⟩
theorem eX2_settles_253 : Dc cX2_settles 253 (.i2l) 1 254 := ⟨by decide +kernel, rfl⟩
theorem eX2_settles_254 : Db cX2_settles 254 (fun o => .goto o) 289 257 := ⟨35, by decide +kernel, by decide, rfl⟩
theorem eX2_settles_257 : Dc cX2_settles 257 (.iload_n 1) 1 258 := ⟨by decide +kernel, rfl⟩
theorem eX2_settles_258 : Dc cX2_settles 258 (.bipush 8) 2 260 := ⟨by decide +kernel, rfl⟩
theorem eX2_settles_260 : Dc cX2_settles 260 (.isub) 1 261 := ⟨by decide +kernel, rfl⟩
theorem eX2_settles_261 : Dc cX2_settles 261 (.aload_n 0) 1 262 := ⟨by decide +kernel, rfl⟩
theorem eX2_settles_262 : Dc cX2_settles 262 (.getfield 8) 3 265 := ⟨by decide +kernel, rfl⟩
theorem eX2_settles_265 : Dc cX2_settles 265 (.bipush 9) 2 267 := ⟨by decide +kernel, rfl⟩
theorem eX2_settles_267 : Dc cX2_settles 267 (.iaload) 1 268 := ⟨by decide +kernel, rfl⟩
theorem eX2_settles_268 : Db cX2_settles 268 (fun o => .if_icmp .ge o) 288 271 := ⟨20, by decide +kernel, by decide, rfl⟩
theorem eX2_settles_271 : Dc cX2_settles 271 (.aload_n 0) 1 272 := ⟨by decide +kernel, rfl⟩
theorem eX2_settles_272 : Dc cX2_settles 272 (.getfield 8) 3 275 := ⟨by decide +kernel, rfl⟩
theorem eX2_settles_275 : Dc cX2_settles 275 (.sipush 11502) 3 278 := ⟨by decide +kernel, rfl⟩
theorem eX2_settles_278 : Dc cX2_settles 278 (.iload_n 1) 1 279 := ⟨by decide +kernel, rfl⟩
theorem eX2_settles_279 : Dc cX2_settles 279 (.iadd) 1 280 := ⟨by decide +kernel, rfl⟩
theorem eX2_settles_280 : Dc cX2_settles 280 (.bipush 8) 2 282 := ⟨by decide +kernel, rfl⟩
theorem eX2_settles_282 : Dc cX2_settles 282 (.isub) 1 283 := ⟨by decide +kernel, rfl⟩
theorem eX2_settles_283 : Dc cX2_settles 283 (.iaload) 1 284 := ⟨by decide +kernel, rfl⟩
theorem eX2_settles_284 : Dc cX2_settles 284 (.i2l) 1 285 := ⟨by decide +kernel, rfl⟩
theorem eX2_settles_285 : Db cX2_settles 285 (fun o => .goto o) 289 288 := ⟨4, by decide +kernel, by decide, rfl⟩
theorem eX2_settles_288 : Dc cX2_settles 288 (.lconst 0) 1 289 := ⟨by decide +kernel, rfl⟩
theorem eX2_settles_289 : Dc cX2_settles 289 (.lastore) 1 290 := ⟨by decide +kernel, rfl⟩
theorem eX2_settles_290 : Dc cX2_settles 290 (.aload_n 0) 1 291 := ⟨by decide +kernel, rfl⟩
theorem eX2_settles_291 : Dc cX2_settles 291 (.getfield 45) 3 294 := ⟨by decide +kernel, rfl⟩
theorem eX2_settles_294 : Dc cX2_settles 294 (.iload_n 1) 1 295 := ⟨by decide +kernel, rfl⟩
theorem eX2_settles_295 : Dc cX2_settles 295 (.lconst 0) 1 296 := ⟨by decide +kernel, rfl⟩
theorem eX2_settles_296 : Dc cX2_settles 296 (.lastore) 1 297 := ⟨by decide +kernel, rfl⟩
theorem eX2_settles_297 : Dc cX2_settles 297 (.iconst 0) 1 298 := ⟨by decide +kernel, rfl⟩
theorem eX2_settles_298 : Dc cX2_settles 298 (.istore_n 2) 1 299 := ⟨by decide +kernel, rfl⟩
theorem eX2_settles_299 : Dc cX2_settles 299 (.iload_n 2) 1 300 := ⟨by decide +kernel, rfl⟩
theorem eX2_settles_300 : Dc cX2_settles 300 (.bipush 20) 2 302 := ⟨by decide +kernel, rfl⟩
theorem eX2_settles_302 : Db cX2_settles 302 (fun o => .if_icmp .ge o) 331 305 := ⟨29, by decide +kernel, by decide, rfl⟩
theorem eX2_settles_305 : Dc cX2_settles 305 (.aload_n 0) 1 306 := ⟨by decide +kernel, rfl⟩
theorem eX2_settles_306 : Dc cX2_settles 306 (.getfield 45) 3 309 := ⟨by decide +kernel, rfl⟩
theorem eX2_settles_309 : Dc cX2_settles 309 (.iload_n 1) 1 310 := ⟨by decide +kernel, rfl⟩
theorem eX2_settles_310 : Dc cX2_settles 310 (.dup2) 1 311 := ⟨by decide +kernel, rfl⟩
theorem eX2_settles_311 : Dc cX2_settles 311 (.laload) 1 312 := ⟨by decide +kernel, rfl⟩
theorem eX2_settles_312 : Dc cX2_settles 312 (.aload_n 0) 1 313 := ⟨by decide +kernel, rfl⟩
theorem eX2_settles_313 : Dc cX2_settles 313 (.getfield 32) 3 316 := ⟨by decide +kernel, rfl⟩
theorem eX2_settles_316 : Dc cX2_settles 316 (.bipush 20) 2 318 := ⟨by decide +kernel, rfl⟩
theorem eX2_settles_318 : Dc cX2_settles 318 (.iload_n 1) 1 319 := ⟨by decide +kernel, rfl⟩
theorem eX2_settles_319 : Dc cX2_settles 319 (.imul) 1 320 := ⟨by decide +kernel, rfl⟩
theorem eX2_settles_320 : Dc cX2_settles 320 (.iload_n 2) 1 321 := ⟨by decide +kernel, rfl⟩
theorem eX2_settles_321 : Dc cX2_settles 321 (.iadd) 1 322 := ⟨by decide +kernel, rfl⟩
theorem eX2_settles_322 : Dc cX2_settles 322 (.laload) 1 323 := ⟨by decide +kernel, rfl⟩
theorem eX2_settles_323 : Dc cX2_settles 323 (.ladd) 1 324 := ⟨by decide +kernel, rfl⟩
theorem eX2_settles_324 : Dc cX2_settles 324 (.lastore) 1 325 := ⟨by decide +kernel, rfl⟩
theorem eX2_settles_325 : Dc cX2_settles 325 (.iinc 2 1) 3 328 := ⟨by decide +kernel, rfl⟩
theorem eX2_settles_328 : Db cX2_settles 328 (fun o => .goto o) 299 331 := ⟨-29, by decide +kernel, by decide, rfl⟩
theorem eX2_settles_331 : Dc cX2_settles 331 (.iinc 1 1) 3 334 := ⟨by decide +kernel, rfl⟩
theorem eX2_settles_334 : Db cX2_settles 334 (fun o => .goto o) 226 337 := ⟨-108, by decide +kernel, by decide, rfl⟩
theorem eX2_settles_337 : Dc cX2_settles 337 (.iconst 1) 1 338 := ⟨by decide +kernel, rfl⟩
theorem eX2_settles_338 : Dc cX2_settles 338 (.istore_n 1) 1 339 := ⟨by decide +kernel, rfl⟩
theorem eX2_settles_339 : Dc cX2_settles 339 (.iconst 0) 1 340 := ⟨by decide +kernel, rfl⟩
theorem eX2_settles_340 : Dc cX2_settles 340 (.istore_n 2) 1 341 := ⟨by decide +kernel, rfl⟩
theorem eX2_settles_341 : Dc cX2_settles 341 (.iload_n 2) 1 342 := ⟨by decide +kernel, rfl⟩
theorem eX2_settles_342 : Dc cX2_settles 342 (.sipush 300) 3 345 := ⟨by decide +kernel, rfl⟩
theorem eX2_settles_345 : Db cX2_settles 345 (fun o => .if_icmp .ge o) 511 348 := ⟨166, by decide +kernel, by decide, rfl⟩
theorem eX2_settles_348 : Dc cX2_settles 348 (.iload_n 1) 1 349 := ⟨by decide +kernel, rfl⟩
theorem eX2_settles_349 : Db cX2_settles 349 (fun o => .ifCond .eq o) 511 352 := ⟨162, by decide +kernel, by decide, rfl⟩
theorem eX2_settles_352 : Dc cX2_settles 352 (.iconst 0) 1 353 := ⟨by decide +kernel, rfl⟩
theorem eX2_settles_353 : Dc cX2_settles 353 (.istore_n 1) 1 354 := ⟨by decide +kernel, rfl⟩
theorem eX2_settles_354 : Dc cX2_settles 354 (.iconst 0) 1 355 := ⟨by decide +kernel, rfl⟩
theorem eX2_settles_355 : Dc cX2_settles 355 (.istore_n 3) 1 356 := ⟨by decide +kernel, rfl⟩
theorem eX2_settles_356 : Dc cX2_settles 356 (.iload_n 3) 1 357 := ⟨by decide +kernel, rfl⟩
theorem eX2_settles_357 : Dc cX2_settles 357 (.bipush 20) 2 359 := ⟨by decide +kernel, rfl⟩
theorem eX2_settles_359 : Db cX2_settles 359 (fun o => .if_icmp .ge o) 478 362 := ⟨119, by decide +kernel, by decide, rfl⟩
theorem eX2_settles_362 : Dc cX2_settles 362 (.aload_n 0) 1 363 := ⟨by decide +kernel, rfl⟩
theorem eX2_settles_363 : Dc cX2_settles 363 (.iload_n 3) 1 364 := ⟨by decide +kernel, rfl⟩
theorem eX2_settles_364 : Dc cX2_settles 364 (.invokevirtual 253) 3 367 := ⟨by decide +kernel, rfl⟩
theorem eX2_settles_367 : Dc cX2_settles 367 (.lstore 4) 2 369 := ⟨by decide +kernel, rfl⟩
theorem eX2_settles_369 : Dc cX2_settles 369 (.iconst 0) 1 370 := ⟨by decide +kernel, rfl⟩
theorem eX2_settles_370 : Dc cX2_settles 370 (.istore 6) 2 372 := ⟨by decide +kernel, rfl⟩
theorem eX2_settles_372 : Dc cX2_settles 372 (.iload 6) 2 374 := ⟨by decide +kernel, rfl⟩
theorem eX2_settles_374 : Dc cX2_settles 374 (.bipush 20) 2 376 := ⟨by decide +kernel, rfl⟩
theorem eX2_settles_376 : Db cX2_settles 376 (fun o => .if_icmp .ge o) 472 379 := ⟨96, by decide +kernel, by decide, rfl⟩
theorem eX2_settles_379 : Dc cX2_settles 379 (.aload_n 0) 1 380 := ⟨by decide +kernel, rfl⟩
theorem eX2_settles_380 : Dc cX2_settles 380 (.getfield 39) 3 383 := ⟨by decide +kernel, rfl⟩
theorem eX2_settles_383 : Dc cX2_settles 383 (.bipush 20) 2 385 := ⟨by decide +kernel, rfl⟩
theorem eX2_settles_385 : Dc cX2_settles 385 (.iload_n 3) 1 386 := ⟨by decide +kernel, rfl⟩
theorem eX2_settles_386 : Dc cX2_settles 386 (.imul) 1 387 := ⟨by decide +kernel, rfl⟩
theorem eX2_settles_387 : Dc cX2_settles 387 (.iload 6) 2 389 := ⟨by decide +kernel, rfl⟩
theorem eX2_settles_389 : Dc cX2_settles 389 (.iadd) 1 390 := ⟨by decide +kernel, rfl⟩
theorem eX2_settles_390 : Dc cX2_settles 390 (.aload_n 0) 1 391 := ⟨by decide +kernel, rfl⟩
theorem eX2_settles_391 : Dc cX2_settles 391 (.getfield 45) 3 394 := ⟨by decide +kernel, rfl⟩
theorem eX2_settles_394 : Dc cX2_settles 394 (.iload_n 3) 1 395 := ⟨by decide +kernel, rfl⟩
theorem eX2_settles_395 : Dc cX2_settles 395 (.laload) 1 396 := ⟨by decide +kernel, rfl⟩
theorem eX2_settles_396 : Dc cX2_settles 396 (.lconst 0) 1 397 := ⟨by decide +kernel, rfl⟩
theorem eX2_settles_397 : Dc cX2_settles 397 (.lcmp) 1 398 := ⟨by decide +kernel, rfl⟩
theorem eX2_settles_398 : Db cX2_settles 398 (fun o => .ifCond .ne o) 405 401 := ⟨7, by decide +kernel, by decide, rfl⟩
theorem eX2_settles_401 : Dc cX2_settles 401 (.lconst 0) 1 402 := ⟨by decide +kernel, rfl⟩
theorem eX2_settles_402 : Db cX2_settles 402 (fun o => .goto o) 427 405 := ⟨25, by decide +kernel, by decide, rfl⟩
theorem eX2_settles_405 : Dc cX2_settles 405 (.lload 4) 2 407 := ⟨by decide +kernel, rfl⟩
theorem eX2_settles_407 : Dc cX2_settles 407 (.aload_n 0) 1 408 := ⟨by decide +kernel, rfl⟩
theorem eX2_settles_408 : Dc cX2_settles 408 (.getfield 32) 3 411 := ⟨by decide +kernel, rfl⟩
theorem eX2_settles_411 : Dc cX2_settles 411 (.bipush 20) 2 413 := ⟨by decide +kernel, rfl⟩
theorem eX2_settles_413 : Dc cX2_settles 413 (.iload_n 3) 1 414 := ⟨by decide +kernel, rfl⟩
theorem eX2_settles_414 : Dc cX2_settles 414 (.imul) 1 415 := ⟨by decide +kernel, rfl⟩
theorem eX2_settles_415 : Dc cX2_settles 415 (.iload 6) 2 417 := ⟨by decide +kernel, rfl⟩
theorem eX2_settles_417 : Dc cX2_settles 417 (.iadd) 1 418 := ⟨by decide +kernel, rfl⟩
theorem eX2_settles_418 : Dc cX2_settles 418 (.laload) 1 419 := ⟨by decide +kernel, rfl⟩
theorem eX2_settles_419 : Dc cX2_settles 419 (.lmul) 1 420 := ⟨by decide +kernel, rfl⟩
theorem eX2_settles_420 : Dc cX2_settles 420 (.aload_n 0) 1 421 := ⟨by decide +kernel, rfl⟩
theorem eX2_settles_421 : Dc cX2_settles 421 (.getfield 45) 3 424 := ⟨by decide +kernel, rfl⟩
theorem eX2_settles_424 : Dc cX2_settles 424 (.iload_n 3) 1 425 := ⟨by decide +kernel, rfl⟩
theorem eX2_settles_425 : Dc cX2_settles 425 (.laload) 1 426 := ⟨by decide +kernel, rfl⟩
theorem eX2_settles_426 : Dc cX2_settles 426 (.ldiv) 1 427 := ⟨by decide +kernel, rfl⟩
theorem eX2_settles_427 : Dc cX2_settles 427 (.lastore) 1 428 := ⟨by decide +kernel, rfl⟩
theorem eX2_settles_428 : Dc cX2_settles 428 (.iload_n 1) 1 429 := ⟨by decide +kernel, rfl⟩
theorem eX2_settles_429 : Db cX2_settles 429 (fun o => .ifCond .ne o) 460 432 := ⟨31, by decide +kernel, by decide, rfl⟩
theorem eX2_settles_432 : Dc cX2_settles 432 (.aload_n 0) 1 433 := ⟨by decide +kernel, rfl⟩
theorem eX2_settles_433 : Dc cX2_settles 433 (.getfield 39) 3 436 := ⟨by decide +kernel, rfl⟩
theorem eX2_settles_436 : Dc cX2_settles 436 (.bipush 20) 2 438 := ⟨by decide +kernel, rfl⟩
theorem eX2_settles_438 : Dc cX2_settles 438 (.iload_n 3) 1 439 := ⟨by decide +kernel, rfl⟩
theorem eX2_settles_439 : Dc cX2_settles 439 (.imul) 1 440 := ⟨by decide +kernel, rfl⟩
theorem eX2_settles_440 : Dc cX2_settles 440 (.iload 6) 2 442 := ⟨by decide +kernel, rfl⟩
theorem eX2_settles_442 : Dc cX2_settles 442 (.iadd) 1 443 := ⟨by decide +kernel, rfl⟩
theorem eX2_settles_443 : Dc cX2_settles 443 (.laload) 1 444 := ⟨by decide +kernel, rfl⟩
theorem eX2_settles_444 : Dc cX2_settles 444 (.aload_n 0) 1 445 := ⟨by decide +kernel, rfl⟩
theorem eX2_settles_445 : Dc cX2_settles 445 (.getfield 36) 3 448 := ⟨by decide +kernel, rfl⟩
theorem eX2_settles_448 : Dc cX2_settles 448 (.bipush 20) 2 450 := ⟨by decide +kernel, rfl⟩
theorem eX2_settles_450 : Dc cX2_settles 450 (.iload_n 3) 1 451 := ⟨by decide +kernel, rfl⟩
theorem eX2_settles_451 : Dc cX2_settles 451 (.imul) 1 452 := ⟨by decide +kernel, rfl⟩
theorem eX2_settles_452 : Dc cX2_settles 452 (.iload 6) 2 454 := ⟨by decide +kernel, rfl⟩
theorem eX2_settles_454 : Dc cX2_settles 454 (.iadd) 1 455 := ⟨by decide +kernel, rfl⟩
theorem eX2_settles_455 : Dc cX2_settles 455 (.laload) 1 456 := ⟨by decide +kernel, rfl⟩
theorem eX2_settles_456 : Dc cX2_settles 456 (.lcmp) 1 457 := ⟨by decide +kernel, rfl⟩
theorem eX2_settles_457 : Db cX2_settles 457 (fun o => .ifCond .eq o) 464 460 := ⟨7, by decide +kernel, by decide, rfl⟩
theorem eX2_settles_460 : Dc cX2_settles 460 (.iconst 1) 1 461 := ⟨by decide +kernel, rfl⟩
theorem eX2_settles_461 : Db cX2_settles 461 (fun o => .goto o) 465 464 := ⟨4, by decide +kernel, by decide, rfl⟩
theorem eX2_settles_464 : Dc cX2_settles 464 (.iconst 0) 1 465 := ⟨by decide +kernel, rfl⟩
theorem eX2_settles_465 : Dc cX2_settles 465 (.istore_n 1) 1 466 := ⟨by decide +kernel, rfl⟩
theorem eX2_settles_466 : Dc cX2_settles 466 (.iinc 6 1) 3 469 := ⟨by decide +kernel, rfl⟩
theorem eX2_settles_469 : Db cX2_settles 469 (fun o => .goto o) 372 472 := ⟨-97, by decide +kernel, by decide, rfl⟩
theorem eX2_settles_472 : Dc cX2_settles 472 (.iinc 3 1) 3 475 := ⟨by decide +kernel, rfl⟩
theorem eX2_settles_475 : Db cX2_settles 475 (fun o => .goto o) 356 478 := ⟨-119, by decide +kernel, by decide, rfl⟩
theorem eX2_settles_478 : Dc cX2_settles 478 (.iconst 0) 1 479 := ⟨by decide +kernel, rfl⟩
theorem eX2_settles_479 : Dc cX2_settles 479 (.istore_n 3) 1 480 := ⟨by decide +kernel, rfl⟩
theorem eX2_settles_480 : Dc cX2_settles 480 (.iload_n 3) 1 481 := ⟨by decide +kernel, rfl⟩
theorem eX2_settles_481 : Dc cX2_settles 481 (.sipush 400) 3 484 := ⟨by decide +kernel, rfl⟩
theorem eX2_settles_484 : Db cX2_settles 484 (fun o => .if_icmp .ge o) 505 487 := ⟨21, by decide +kernel, by decide, rfl⟩
theorem eX2_settles_487 : Dc cX2_settles 487 (.aload_n 0) 1 488 := ⟨by decide +kernel, rfl⟩
theorem eX2_settles_488 : Dc cX2_settles 488 (.getfield 36) 3 491 := ⟨by decide +kernel, rfl⟩
theorem eX2_settles_491 : Dc cX2_settles 491 (.iload_n 3) 1 492 := ⟨by decide +kernel, rfl⟩
theorem eX2_settles_492 : Dc cX2_settles 492 (.aload_n 0) 1 493 := ⟨by decide +kernel, rfl⟩
theorem eX2_settles_493 : Dc cX2_settles 493 (.getfield 39) 3 496 := ⟨by decide +kernel, rfl⟩
theorem eX2_settles_496 : Dc cX2_settles 496 (.iload_n 3) 1 497 := ⟨by decide +kernel, rfl⟩
theorem eX2_settles_497 : Dc cX2_settles 497 (.laload) 1 498 := ⟨by decide +kernel, rfl⟩
theorem eX2_settles_498 : Dc cX2_settles 498 (.lastore) 1 499 := ⟨by decide +kernel, rfl⟩
theorem eX2_settles_499 : Dc cX2_settles 499 (.iinc 3 1) 3 502 := ⟨by decide +kernel, rfl⟩
theorem eX2_settles_502 : Db cX2_settles 502 (fun o => .goto o) 480 505 := ⟨-22, by decide +kernel, by decide, rfl⟩
theorem eX2_settles_505 : Dc cX2_settles 505 (.iinc 2 1) 3 508 := ⟨by decide +kernel, rfl⟩
theorem eX2_settles_508 : Db cX2_settles 508 (fun o => .goto o) 341 511 := ⟨-167, by decide +kernel, by decide, rfl⟩
theorem eX2_settles_511 : Dc cX2_settles 511 (.return_) 1 512 := ⟨by decide +kernel, rfl⟩
theorem eX2_canPay_0 : Dc cX2_canPay 0 (.aload_n 0) 1 1 := ⟨by decide +kernel, rfl⟩
theorem eX2_canPay_1 : Dc cX2_canPay 1 (.getfield 42) 3 4 := ⟨by decide +kernel, rfl⟩
theorem eX2_canPay_4 : Dc cX2_canPay 4 (.iload_n 1) 1 5 := ⟨by decide +kernel, rfl⟩
theorem eX2_canPay_5 : Dc cX2_canPay 5 (.laload) 1 6 := ⟨by decide +kernel, rfl⟩
theorem eX2_canPay_6 : Dc cX2_canPay 6 (.lstore_n 2) 1 7 := ⟨by decide +kernel, rfl⟩
theorem eX2_canPay_7 : Dc cX2_canPay 7 (.iconst 0) 1 8 := ⟨by decide +kernel, rfl⟩
theorem eX2_canPay_8 : Dc cX2_canPay 8 (.istore 4) 2 10 := ⟨by decide +kernel, rfl⟩
theorem eX2_canPay_10 : Dc cX2_canPay 10 (.iload 4) 2 12 := ⟨by decide +kernel, rfl⟩
theorem eX2_canPay_12 : Dc cX2_canPay 12 (.bipush 20) 2 14 := ⟨by decide +kernel, rfl⟩
theorem eX2_canPay_14 : Db cX2_canPay 14 (fun o => .if_icmp .ge o) 38 17 := ⟨24, by decide +kernel, by decide, rfl⟩
theorem eX2_canPay_17 : Dc cX2_canPay 17 (.lload_n 2) 1 18 := ⟨by decide +kernel, rfl⟩
theorem eX2_canPay_18 : Dc cX2_canPay 18 (.aload_n 0) 1 19 := ⟨by decide +kernel, rfl⟩
theorem eX2_canPay_19 : Dc cX2_canPay 19 (.getfield 36) 3 22 := ⟨by decide +kernel, rfl⟩
theorem eX2_canPay_22 : Dc cX2_canPay 22 (.bipush 20) 2 24 := ⟨by decide +kernel, rfl⟩
theorem eX2_canPay_24 : Dc cX2_canPay 24 (.iload 4) 2 26 := ⟨by decide +kernel, rfl⟩
theorem eX2_canPay_26 : Dc cX2_canPay 26 (.imul) 1 27 := ⟨by decide +kernel, rfl⟩
theorem eX2_canPay_27 : Dc cX2_canPay 27 (.iload_n 1) 1 28 := ⟨by decide +kernel, rfl⟩
theorem eX2_canPay_28 : Dc cX2_canPay 28 (.iadd) 1 29 := ⟨by decide +kernel, rfl⟩
theorem eX2_canPay_29 : Dc cX2_canPay 29 (.laload) 1 30 := ⟨by decide +kernel, rfl⟩
theorem eX2_canPay_30 : Dc cX2_canPay 30 (.ladd) 1 31 := ⟨by decide +kernel, rfl⟩
theorem eX2_canPay_31 : Dc cX2_canPay 31 (.lstore_n 2) 1 32 := ⟨by decide +kernel, rfl⟩
theorem eX2_canPay_32 : Dc cX2_canPay 32 (.iinc 4 1) 3 35 := ⟨by decide +kernel, rfl⟩
theorem eX2_canPay_35 : Db cX2_canPay 35 (fun o => .goto o) 10 38 := ⟨-25, by decide +kernel, by decide, rfl⟩
theorem eX2_canPay_38 : Dc cX2_canPay 38 (.lload_n 2) 1 39 := ⟨by decide +kernel, rfl⟩
theorem eX2_canPay_39 : Dc cX2_canPay 39 (.aload_n 0) 1 40 := ⟨by decide +kernel, rfl⟩
theorem eX2_canPay_40 : Dc cX2_canPay 40 (.getfield 45) 3 43 := ⟨by decide +kernel, rfl⟩
theorem eX2_canPay_43 : Dc cX2_canPay 43 (.iload_n 1) 1 44 := ⟨by decide +kernel, rfl⟩
theorem eX2_canPay_44 : Dc cX2_canPay 44 (.laload) 1 45 := ⟨by decide +kernel, rfl⟩
theorem eX2_canPay_45 : Dc cX2_canPay 45 (.lcmp) 1 46 := ⟨by decide +kernel, rfl⟩
theorem eX2_canPay_46 : Db cX2_canPay 46 (fun o => .ifCond .ge o) 53 49 := ⟨7, by decide +kernel, by decide, rfl⟩
theorem eX2_canPay_49 : Dc cX2_canPay 49 (.lload_n 2) 1 50 := ⟨by decide +kernel, rfl⟩
theorem eX2_canPay_50 : Db cX2_canPay 50 (fun o => .goto o) 59 53 := ⟨9, by decide +kernel, by decide, rfl⟩
theorem eX2_canPay_53 : Dc cX2_canPay 53 (.aload_n 0) 1 54 := ⟨by decide +kernel, rfl⟩
theorem eX2_canPay_54 : Dc cX2_canPay 54 (.getfield 45) 3 57 := ⟨by decide +kernel, rfl⟩
theorem eX2_canPay_57 : Dc cX2_canPay 57 (.iload_n 1) 1 58 := ⟨by decide +kernel, rfl⟩
theorem eX2_canPay_58 : Dc cX2_canPay 58 (.laload) 1 59 := ⟨by decide +kernel, rfl⟩
theorem eX2_canPay_59 : Dc cX2_canPay 59 (.lreturn) 1 60 := ⟨by decide +kernel, rfl⟩
theorem eX2_pays_0 : Dc cX2_pays 0 (.lconst 0) 1 1 := ⟨by decide +kernel, rfl⟩
theorem eX2_pays_1 : Dc cX2_pays 1 (.lstore_n 2) 1 2 := ⟨by decide +kernel, rfl⟩
theorem eX2_pays_2 : Dc cX2_pays 2 (.iconst 0) 1 3 := ⟨by decide +kernel, rfl⟩
theorem eX2_pays_3 : Dc cX2_pays 3 (.istore 4) 2 5 := ⟨by decide +kernel, rfl⟩
theorem eX2_pays_5 : Dc cX2_pays 5 (.iload 4) 2 7 := ⟨by decide +kernel, rfl⟩
theorem eX2_pays_7 : Dc cX2_pays 7 (.bipush 20) 2 9 := ⟨by decide +kernel, rfl⟩
theorem eX2_pays_9 : Db cX2_pays 9 (fun o => .if_icmp .ge o) 33 12 := ⟨24, by decide +kernel, by decide, rfl⟩
theorem eX2_pays_12 : Dc cX2_pays 12 (.lload_n 2) 1 13 := ⟨by decide +kernel, rfl⟩
theorem eX2_pays_13 : Dc cX2_pays 13 (.aload_n 0) 1 14 := ⟨by decide +kernel, rfl⟩
theorem eX2_pays_14 : Dc cX2_pays 14 (.getfield 36) 3 17 := ⟨by decide +kernel, rfl⟩
theorem eX2_pays_17 : Dc cX2_pays 17 (.bipush 20) 2 19 := ⟨by decide +kernel, rfl⟩
theorem eX2_pays_19 : Dc cX2_pays 19 (.iload_n 1) 1 20 := ⟨by decide +kernel, rfl⟩
theorem eX2_pays_20 : Dc cX2_pays 20 (.imul) 1 21 := ⟨by decide +kernel, rfl⟩
theorem eX2_pays_21 : Dc cX2_pays 21 (.iload 4) 2 23 := ⟨by decide +kernel, rfl⟩
theorem eX2_pays_23 : Dc cX2_pays 23 (.iadd) 1 24 := ⟨by decide +kernel, rfl⟩
theorem eX2_pays_24 : Dc cX2_pays 24 (.laload) 1 25 := ⟨by decide +kernel, rfl⟩
theorem eX2_pays_25 : Dc cX2_pays 25 (.ladd) 1 26 := ⟨by decide +kernel, rfl⟩
theorem eX2_pays_26 : Dc cX2_pays 26 (.lstore_n 2) 1 27 := ⟨by decide +kernel, rfl⟩
theorem eX2_pays_27 : Dc cX2_pays 27 (.iinc 4 1) 3 30 := ⟨by decide +kernel, rfl⟩
theorem eX2_pays_30 : Db cX2_pays 30 (fun o => .goto o) 5 33 := ⟨-25, by decide +kernel, by decide, rfl⟩
theorem eX2_pays_33 : Dc cX2_pays 33 (.lload_n 2) 1 34 := ⟨by decide +kernel, rfl⟩
theorem eX2_pays_34 : Dc cX2_pays 34 (.lreturn) 1 35 := ⟨by decide +kernel, rfl⟩
theorem eX2_settle_0 : Dc cX2_settle 0 (.aload_n 0) 1 1 := ⟨by decide +kernel, rfl⟩
theorem eX2_settle_1 : Dc cX2_settle 1 (.invokevirtual 257) 3 4 := ⟨by decide +kernel, rfl⟩
theorem eX2_settle_4 : Dc cX2_settle 4 (.iconst 0) 1 5 := ⟨by decide +kernel, rfl⟩
theorem eX2_settle_5 : Dc cX2_settle 5 (.istore_n 1) 1 6 := ⟨by decide +kernel, rfl⟩
theorem eX2_settle_6 : Dc cX2_settle 6 (.iconst 0) 1 7 := ⟨by decide +kernel, rfl⟩
theorem eX2_settle_7 : Dc cX2_settle 7 (.istore_n 2) 1 8 := ⟨by decide +kernel, rfl⟩
theorem eX2_settle_8 : Dc cX2_settle 8 (.iload_n 2) 1 9 := ⟨by decide +kernel, rfl⟩
theorem eX2_settle_9 : Dc cX2_settle 9 (.bipush 20) 2 11 := ⟨by decide +kernel, rfl⟩
theorem eX2_settle_11 : Db cX2_settle 11 (fun o => .if_icmp .ge o) 45 14 := ⟨34, by decide +kernel, by decide, rfl⟩
theorem eX2_settle_14 : Dc cX2_settle 14 (.iload_n 1) 1 15 := ⟨by decide +kernel, rfl⟩
theorem eX2_settle_15 : Dc cX2_settle 15 (.aload_n 0) 1 16 := ⟨by decide +kernel, rfl⟩
theorem eX2_settle_16 : Dc cX2_settle 16 (.iload_n 2) 1 17 := ⟨by decide +kernel, rfl⟩
theorem eX2_settle_17 : Dc cX2_settle 17 (.invokevirtual 260) 3 20 := ⟨by decide +kernel, rfl⟩
theorem eX2_settle_20 : Dc cX2_settle 20 (.aload_n 0) 1 21 := ⟨by decide +kernel, rfl⟩
theorem eX2_settle_21 : Dc cX2_settle 21 (.getfield 45) 3 24 := ⟨by decide +kernel, rfl⟩
theorem eX2_settle_24 : Dc cX2_settle 24 (.iload_n 2) 1 25 := ⟨by decide +kernel, rfl⟩
theorem eX2_settle_25 : Dc cX2_settle 25 (.laload) 1 26 := ⟨by decide +kernel, rfl⟩
theorem eX2_settle_26 : Dc cX2_settle 26 (.lcmp) 1 27 := ⟨by decide +kernel, rfl⟩
theorem eX2_settle_27 : Db cX2_settle 27 (fun o => .ifCond .ge o) 36 30 := ⟨9, by decide +kernel, by decide, rfl⟩
theorem eX2_settle_30 : Dc cX2_settle 30 (.iconst 1) 1 31 := ⟨by decide +kernel, rfl⟩
theorem eX2_settle_31 : Dc cX2_settle 31 (.iload_n 2) 1 32 := ⟨by decide +kernel, rfl⟩
theorem eX2_settle_32 : Dc cX2_settle 32 (.ishl) 1 33 := ⟨by decide +kernel, rfl⟩
theorem eX2_settle_33 : Db cX2_settle 33 (fun o => .goto o) 37 36 := ⟨4, by decide +kernel, by decide, rfl⟩
theorem eX2_settle_36 : Dc cX2_settle 36 (.iconst 0) 1 37 := ⟨by decide +kernel, rfl⟩
theorem eX2_settle_37 : Dc cX2_settle 37 (.ior) 1 38 := ⟨by decide +kernel, rfl⟩
theorem eX2_settle_38 : Dc cX2_settle 38 (.istore_n 1) 1 39 := ⟨by decide +kernel, rfl⟩
theorem eX2_settle_39 : Dc cX2_settle 39 (.iinc 2 1) 3 42 := ⟨by decide +kernel, rfl⟩
theorem eX2_settle_42 : Db cX2_settle 42 (fun o => .goto o) 8 45 := ⟨-34, by decide +kernel, by decide, rfl⟩
theorem eX2_settle_45 : Dc cX2_settle 45 (.iconst 0) 1 46 := ⟨by decide +kernel, rfl⟩
theorem eX2_settle_46 : Dc cX2_settle 46 (.istore_n 2) 1 47 := ⟨by decide +kernel, rfl⟩
theorem eX2_settle_47 : Dc cX2_settle 47 (.iload_n 2) 1 48 := ⟨by decide +kernel, rfl⟩
theorem eX2_settle_48 : Dc cX2_settle 48 (.bipush 20) 2 50 := ⟨by decide +kernel, rfl⟩
theorem eX2_settle_50 : Db cX2_settle 50 (fun o => .if_icmp .ge o) 153 53 := ⟨103, by decide +kernel, by decide, rfl⟩
theorem eX2_settle_53 : Dc cX2_settle 53 (.aload_n 0) 1 54 := ⟨by decide +kernel, rfl⟩
theorem eX2_settle_54 : Dc cX2_settle 54 (.getfield 42) 3 57 := ⟨by decide +kernel, rfl⟩
theorem eX2_settle_57 : Dc cX2_settle 57 (.iload_n 2) 1 58 := ⟨by decide +kernel, rfl⟩
theorem eX2_settle_58 : Dc cX2_settle 58 (.laload) 1 59 := ⟨by decide +kernel, rfl⟩
theorem eX2_settle_59 : Dc cX2_settle 59 (.aload_n 0) 1 60 := ⟨by decide +kernel, rfl⟩
theorem eX2_settle_60 : Dc cX2_settle 60 (.iload_n 2) 1 61 := ⟨by decide +kernel, rfl⟩
theorem eX2_settle_61 : Dc cX2_settle 61 (.invokevirtual 260) 3 64 := ⟨by decide +kernel, rfl⟩
theorem eX2_settle_64 : Dc cX2_settle 64 (.lsub) 1 65 := ⟨by decide +kernel, rfl⟩
theorem eX2_settle_65 : Dc cX2_settle 65 (.lstore_n 3) 1 66 := ⟨by decide +kernel, rfl⟩
theorem eX2_settle_66 : Dc cX2_settle 66 (.iconst 0) 1 67 := ⟨by decide +kernel, rfl⟩
theorem eX2_settle_67 : Dc cX2_settle 67 (.istore 5) 2 69 := ⟨by decide +kernel, rfl⟩
theorem eX2_settle_69 : Dc cX2_settle 69 (.iload 5) 2 71 := ⟨by decide +kernel, rfl⟩
theorem eX2_settle_71 : Dc cX2_settle 71 (.bipush 20) 2 73 := ⟨by decide +kernel, rfl⟩
theorem eX2_settle_73 : Db cX2_settle 73 (fun o => .if_icmp .ge o) 97 76 := ⟨24, by decide +kernel, by decide, rfl⟩
theorem eX2_settle_76 : Dc cX2_settle 76 (.lload_n 3) 1 77 := ⟨by decide +kernel, rfl⟩
theorem eX2_settle_77 : Dc cX2_settle 77 (.aload_n 0) 1 78 := ⟨by decide +kernel, rfl⟩
theorem eX2_settle_78 : Dc cX2_settle 78 (.getfield 36) 3 81 := ⟨by decide +kernel, rfl⟩
theorem eX2_settle_81 : Dc cX2_settle 81 (.bipush 20) 2 83 := ⟨by decide +kernel, rfl⟩
theorem eX2_settle_83 : Dc cX2_settle 83 (.iload 5) 2 85 := ⟨by decide +kernel, rfl⟩
theorem eX2_settle_85 : Dc cX2_settle 85 (.imul) 1 86 := ⟨by decide +kernel, rfl⟩
theorem eX2_settle_86 : Dc cX2_settle 86 (.iload_n 2) 1 87 := ⟨by decide +kernel, rfl⟩
theorem eX2_settle_87 : Dc cX2_settle 87 (.iadd) 1 88 := ⟨by decide +kernel, rfl⟩
theorem eX2_settle_88 : Dc cX2_settle 88 (.laload) 1 89 := ⟨by decide +kernel, rfl⟩
theorem eX2_settle_89 : Dc cX2_settle 89 (.ladd) 1 90 := ⟨by decide +kernel, rfl⟩
theorem eX2_settle_90 : Dc cX2_settle 90 (.lstore_n 3) 1 91 := ⟨by decide +kernel, rfl⟩
theorem eX2_settle_91 : Dc cX2_settle 91 (.iinc 5 1) 3 94 := ⟨by decide +kernel, rfl⟩
theorem eX2_settle_94 : Db cX2_settle 94 (fun o => .goto o) 69 97 := ⟨-25, by decide +kernel, by decide, rfl⟩
theorem eX2_settle_97 : Dc cX2_settle 97 (.iload_n 2) 1 98 := ⟨by decide +kernel, rfl⟩
theorem eX2_settle_98 : Dc cX2_settle 98 (.bipush 8) 2 100 := ⟨by decide +kernel, rfl⟩
theorem eX2_settle_100 : Db cX2_settle 100 (fun o => .if_icmp .ge o) 118 103 := ⟨18, by decide +kernel, by decide, rfl⟩
theorem eX2_settle_103 : Dc cX2_settle 103 (.aload_n 0) 1 104 := ⟨by decide +kernel, rfl⟩
theorem eX2_settle_104 : Dc cX2_settle 104 (.getfield 8) 3 107 := ⟨by decide +kernel, rfl⟩
theorem eX2_settle_107 : Dc cX2_settle 107 (.sipush 192) 3 110 := ⟨by decide +kernel, rfl⟩
theorem eX2_settle_110 : Dc cX2_settle 110 (.iload_n 2) 1 111 := ⟨by decide +kernel, rfl⟩
theorem eX2_settle_111 : Dc cX2_settle 111 (.iadd) 1 112 := ⟨by decide +kernel, rfl⟩
theorem eX2_settle_112 : Dc cX2_settle 112 (.lload_n 3) 1 113 := ⟨by decide +kernel, rfl⟩
theorem eX2_settle_113 : Dc cX2_settle 113 (.l2i) 1 114 := ⟨by decide +kernel, rfl⟩
theorem eX2_settle_114 : Dc cX2_settle 114 (.iastore) 1 115 := ⟨by decide +kernel, rfl⟩
theorem eX2_settle_115 : Db cX2_settle 115 (fun o => .goto o) 147 118 := ⟨32, by decide +kernel, by decide, rfl⟩
theorem eX2_settle_118 : Dc cX2_settle 118 (.iload_n 2) 1 119 := ⟨by decide +kernel, rfl⟩
theorem eX2_settle_119 : Dc cX2_settle 119 (.bipush 8) 2 121 := ⟨by decide +kernel, rfl⟩
theorem eX2_settle_121 : Dc cX2_settle 121 (.isub) 1 122 := ⟨by decide +kernel, rfl⟩
theorem eX2_settle_122 : Dc cX2_settle 122 (.aload_n 0) 1 123 := ⟨by decide +kernel, rfl⟩
theorem eX2_settle_123 : Dc cX2_settle 123 (.getfield 8) 3 126 := ⟨by decide +kernel, rfl⟩
theorem eX2_settle_126 : Dc cX2_settle 126 (.bipush 9) 2 128 := ⟨by decide +kernel, rfl⟩
theorem eX2_settle_128 : Dc cX2_settle 128 (.iaload) 1 129 := ⟨by decide +kernel, rfl⟩
theorem eX2_settle_129 : Db cX2_settle 129 (fun o => .if_icmp .ge o) 147 132 := ⟨18, by decide +kernel, by decide, rfl⟩
theorem eX2_settle_132 : Dc cX2_settle 132 (.aload_n 0) 1 133 := ⟨by decide +kernel, rfl⟩
theorem eX2_settle_133 : Dc cX2_settle 133 (.getfield 8) 3 136 := ⟨by decide +kernel, rfl⟩
theorem eX2_settle_136 : Dc cX2_settle 136 (.sipush 11502) 3 139 := ⟨by decide +kernel, rfl⟩
theorem eX2_settle_139 : Dc cX2_settle 139 (.iload_n 2) 1 140 := ⟨by decide +kernel, rfl⟩
theorem eX2_settle_140 : Dc cX2_settle 140 (.iadd) 1 141 := ⟨by decide +kernel, rfl⟩
theorem eX2_settle_141 : Dc cX2_settle 141 (.bipush 8) 2 143 := ⟨by decide +kernel, rfl⟩
theorem eX2_settle_143 : Dc cX2_settle 143 (.isub) 1 144 := ⟨by decide +kernel, rfl⟩
theorem eX2_settle_144 : Dc cX2_settle 144 (.lload_n 3) 1 145 := ⟨by decide +kernel, rfl⟩
theorem eX2_settle_145 : Dc cX2_settle 145 (.l2i) 1 146 := ⟨by decide +kernel, rfl⟩
theorem eX2_settle_146 : Dc cX2_settle 146 (.iastore) 1 147 := ⟨by decide +kernel, rfl⟩
theorem eX2_settle_147 : Dc cX2_settle 147 (.iinc 2 1) 3 150 := ⟨by decide +kernel, rfl⟩
theorem eX2_settle_150 : Db cX2_settle 150 (fun o => .goto o) 47 153 := ⟨-103, by decide +kernel, by decide, rfl⟩
theorem eX2_settle_153 : Dc cX2_settle 153 (.iconst 0) 1 154 := ⟨by decide +kernel, rfl⟩
theorem eX2_settle_154 : Dc cX2_settle 154 (.istore_n 2) 1 155 := ⟨by decide +kernel, rfl⟩
theorem eX2_settle_155 : Dc cX2_settle 155 (.iload_n 2) 1 156 := ⟨by decide +kernel, rfl⟩
theorem eX2_settle_156 : Dc cX2_settle 156 (.aload_n 0) 1 157 := ⟨by decide +kernel, rfl⟩
theorem eX2_settle_157 : Dc cX2_settle 157 (.getfield 8) 3 160 := ⟨by decide +kernel, rfl⟩
theorem eX2_settle_160 : Dc cX2_settle 160 (.iconst 2) 1 161 := ⟨by decide +kernel, rfl⟩
theorem eX2_settle_161 : Dc cX2_settle 161 (.iaload) 1 162 := ⟨by decide +kernel, rfl⟩
theorem eX2_settle_162 : Db cX2_settle 162 (fun o => .if_icmp .ge o) 233 165 := ⟨71, by decide +kernel, by decide, rfl⟩
theorem eX2_settle_165 : Dc cX2_settle 165 (.aload_n 0) 1 166 := ⟨by decide +kernel, rfl⟩
theorem eX2_settle_166 : Dc cX2_settle 166 (.getfield 8) 3 169 := ⟨by decide +kernel, rfl⟩
theorem eX2_settle_169 : Dc cX2_settle 169 (.sipush 370) 3 172 := ⟨by decide +kernel, rfl⟩
theorem eX2_settle_172 : Dc cX2_settle 172 (.iload_n 2) 1 173 := ⟨by decide +kernel, rfl⟩
theorem eX2_settle_173 : Dc cX2_settle 173 (.iadd) 1 174 := ⟨by decide +kernel, rfl⟩
theorem eX2_settle_174 : Dc cX2_settle 174 (.iaload) 1 175 := ⟨by decide +kernel, rfl⟩
theorem eX2_settle_175 : Dc cX2_settle 175 (.iconst 4) 1 176 := ⟨by decide +kernel, rfl⟩
theorem eX2_settle_176 : Db cX2_settle 176 (fun o => .if_icmp .eq o) 193 179 := ⟨17, by decide +kernel, by decide, rfl⟩
theorem eX2_settle_179 : Dc cX2_settle 179 (.aload_n 0) 1 180 := ⟨by decide +kernel, rfl⟩
theorem eX2_settle_180 : Dc cX2_settle 180 (.getfield 8) 3 183 := ⟨by decide +kernel, rfl⟩
theorem eX2_settle_183 : Dc cX2_settle 183 (.sipush 370) 3 186 := ⟨by decide +kernel, rfl⟩
theorem eX2_settle_186 : Dc cX2_settle 186 (.iload_n 2) 1 187 := ⟨by decide +kernel, rfl⟩
theorem eX2_settle_187 : Dc cX2_settle 187 (.iadd) 1 188 := ⟨by decide +kernel, rfl⟩
theorem eX2_settle_188 : Dc cX2_settle 188 (.iaload) 1 189 := ⟨by decide +kernel, rfl⟩
theorem eX2_settle_189 : Dc cX2_settle 189 (.iconst 5) 1 190 := ⟨by decide +kernel, rfl⟩
theorem eX2_settle_190 : Db cX2_settle 190 (fun o => .if_icmp .ne o) 197 193 := ⟨7, by decide +kernel, by decide, rfl⟩
theorem eX2_settle_193 : Dc cX2_settle 193 (.iconst 1) 1 194 := ⟨by decide +kernel, rfl⟩
theorem eX2_settle_194 : Db cX2_settle 194 (fun o => .goto o) 198 197 := ⟨4, by decide +kernel, by decide, rfl⟩
theorem eX2_settle_197 : Dc cX2_settle 197 (.iconst 0) 1 198 := ⟨by decide +kernel, rfl⟩
theorem eX2_settle_198 : Dc cX2_settle 198 (.istore_n 3) 1 199 := ⟨by decide +kernel, rfl⟩
theorem eX2_settle_199 : Dc cX2_settle 199 (.aload_n 0) 1 200 := ⟨by decide +kernel, rfl⟩
theorem eX2_settle_200 : Dc cX2_settle 200 (.getfield 8) 3 203 := ⟨by decide +kernel, rfl⟩
theorem eX2_settle_203 : Dc cX2_settle 203 (.sipush 790) 3 206 := ⟨by decide +kernel, rfl⟩
theorem eX2_settle_206 : Dc cX2_settle 206 (.iload_n 2) 1 207 := ⟨by decide +kernel, rfl⟩
theorem eX2_settle_207 : Dc cX2_settle 207 (.iadd) 1 208 := ⟨by decide +kernel, rfl⟩
theorem eX2_settle_208 : Dc cX2_settle 208 (.iload_n 3) 1 209 := ⟨by decide +kernel, rfl⟩
theorem eX2_settle_209 : Db cX2_settle 209 (fun o => .ifCond .eq o) 216 212 := ⟨7, by decide +kernel, by decide, rfl⟩
theorem eX2_settle_212 : Dc cX2_settle 212 (.iconst 1) 1 213 := ⟨by decide +kernel, rfl⟩
theorem eX2_settle_213 : Db cX2_settle 213 (fun o => .goto o) 226 216 := ⟨13, by decide +kernel, by decide, rfl⟩
theorem eX2_settle_216 : Dc cX2_settle 216 (.aload_n 0) 1 217 := ⟨by decide +kernel, rfl⟩
theorem eX2_settle_217 : Dc cX2_settle 217 (.getfield 8) 3 220 := ⟨by decide +kernel, rfl⟩
theorem eX2_settle_220 : Dc cX2_settle 220 (.sipush 790) 3 223 := ⟨by decide +kernel, rfl⟩
theorem eX2_settle_223 : Dc cX2_settle 223 (.iload_n 2) 1 224 := ⟨by decide +kernel, rfl⟩
theorem eX2_settle_224 : Dc cX2_settle 224 (.iadd) 1 225 := ⟨by decide +kernel, rfl⟩
theorem eX2_settle_225 : Dc cX2_settle 225 (.iaload) 1 226 := ⟨by decide +kernel, rfl⟩
theorem eX2_settle_226 : Dc cX2_settle 226 (.iastore) 1 227 := ⟨by decide +kernel, rfl⟩
theorem eX2_settle_227 : Dc cX2_settle 227 (.iinc 2 1) 3 230 := ⟨by decide +kernel, rfl⟩
theorem eX2_settle_230 : Db cX2_settle 230 (fun o => .goto o) 155 233 := ⟨-75, by decide +kernel, by decide, rfl⟩
theorem eX2_settle_233 : Dc cX2_settle 233 (.iconst 0) 1 234 := ⟨by decide +kernel, rfl⟩
theorem eX2_settle_234 : Dc cX2_settle 234 (.istore_n 2) 1 235 := ⟨by decide +kernel, rfl⟩
theorem eX2_settle_235 : Dc cX2_settle 235 (.iload_n 2) 1 236 := ⟨by decide +kernel, rfl⟩
theorem eX2_settle_236 : Dc cX2_settle 236 (.aload_n 0) 1 237 := ⟨by decide +kernel, rfl⟩
theorem eX2_settle_237 : Dc cX2_settle 237 (.getfield 8) 3 240 := ⟨by decide +kernel, rfl⟩
theorem eX2_settle_240 : Dc cX2_settle 240 (.bipush 9) 2 242 := ⟨by decide +kernel, rfl⟩
theorem eX2_settle_242 : Dc cX2_settle 242 (.iaload) 1 243 := ⟨by decide +kernel, rfl⟩
theorem eX2_settle_243 : Db cX2_settle 243 (fun o => .if_icmp .ge o) 376 246 := ⟨133, by decide +kernel, by decide, rfl⟩
theorem eX2_settle_246 : Dc cX2_settle 246 (.iconst 0) 1 247 := ⟨by decide +kernel, rfl⟩
theorem eX2_settle_247 : Dc cX2_settle 247 (.istore_n 3) 1 248 := ⟨by decide +kernel, rfl⟩
theorem eX2_settle_248 : Dc cX2_settle 248 (.iload_n 3) 1 249 := ⟨by decide +kernel, rfl⟩
theorem eX2_settle_249 : Dc cX2_settle 249 (.bipush 8) 2 251 := ⟨by decide +kernel, rfl⟩
theorem eX2_settle_251 : Db cX2_settle 251 (fun o => .if_icmp .ge o) 338 254 := ⟨87, by decide +kernel, by decide, rfl⟩
theorem eX2_settle_254 : Dc cX2_settle 254 (.iload_n 1) 1 255 := ⟨by decide +kernel, rfl⟩
theorem eX2_settle_255 : Dc cX2_settle 255 (.iload_n 3) 1 256 := ⟨by decide +kernel, rfl⟩
theorem eX2_settle_256 : Dc cX2_settle 256 (.ishr) 1 257 := ⟨by decide +kernel, rfl⟩
theorem eX2_settle_257 : Dc cX2_settle 257 (.iconst 1) 1 258 := ⟨by decide +kernel, rfl⟩
theorem eX2_settle_258 : Dc cX2_settle 258 (.iand) 1 259 := ⟨by decide +kernel, rfl⟩
theorem eX2_settle_259 : Dc cX2_settle 259 (.iconst 1) 1 260 := ⟨by decide +kernel, rfl⟩
theorem eX2_settle_260 : Db cX2_settle 260 (fun o => .if_icmp .ne o) 332 263 := ⟨72, by decide +kernel, by decide, rfl⟩
theorem eX2_settle_263 : Dc cX2_settle 263 (.aload_n 0) 1 264 := ⟨by decide +kernel, rfl⟩
theorem eX2_settle_264 : Dc cX2_settle 264 (.getfield 32) 3 267 := ⟨by decide +kernel, rfl⟩
theorem eX2_settle_267 : Dc cX2_settle 267 (.bipush 20) 2 269 := ⟨by decide +kernel, rfl⟩
theorem eX2_settle_269 : Dc cX2_settle 269 (.iload_n 3) 1 270 := ⟨by decide +kernel, rfl⟩
theorem eX2_settle_270 : Dc cX2_settle 270 (.imul) 1 271 := ⟨by decide +kernel, rfl⟩
theorem eX2_settle_271 : Dc cX2_settle 271 (.bipush 8) 2 273 := ⟨by decide +kernel, rfl⟩
theorem eX2_settle_273 : Dc cX2_settle 273 (.iadd) 1 274 := ⟨by decide +kernel, rfl⟩
theorem eX2_settle_274 : Dc cX2_settle 274 (.iload_n 2) 1 275 := ⟨by decide +kernel, rfl⟩
theorem eX2_settle_275 : Dc cX2_settle 275 (.iadd) 1 276 := ⟨by decide +kernel, rfl⟩
theorem eX2_settle_276 : Dc cX2_settle 276 (.laload) 1 277 := ⟨by decide +kernel, rfl⟩
theorem eX2_settle_277 : Dc cX2_settle 277 (.lconst 0) 1 278 := ⟨by decide +kernel, rfl⟩
theorem eX2_settle_278 : Dc cX2_settle 278 (.lcmp) 1 279 := ⟨by decide +kernel, rfl⟩
theorem eX2_settle_279 : Db cX2_settle 279 (fun o => .ifCond .le o) 332 282 := ⟨53, by decide +kernel, by decide, rfl⟩
theorem eX2_settle_282 : Dc cX2_settle 282 (.aload_n 0) 1 283 := ⟨by decide +kernel, rfl⟩
theorem eX2_settle_283 : Dc cX2_settle 283 (.getfield 8) 3 286 := ⟨by decide +kernel, rfl⟩
theorem eX2_settle_286 : Dc cX2_settle 286 (.sipush 11530) 3 289 := ⟨by decide +kernel, rfl⟩
theorem eX2_settle_289 : Dc cX2_settle 289 (.bipush 9) 2 291 := ⟨by decide +kernel, rfl⟩
theorem eX2_settle_291 : Dc cX2_settle 291 (.iload_n 2) 1 292 := ⟨by decide +kernel, rfl⟩
theorem eX2_settle_292 : Dc cX2_settle 292 (.imul) 1 293 := ⟨by decide +kernel, rfl⟩
theorem eX2_settle_293 : Dc cX2_settle 293 (.iadd) 1 294 := ⟨by decide +kernel, rfl⟩
theorem eX2_settle_294 : Dc cX2_settle 294 (.bipush 8) 2 296 := ⟨by decide +kernel, rfl⟩
theorem eX2_settle_296 : Dc cX2_settle 296 (.iadd) 1 297 := ⟨by decide +kernel, rfl⟩
theorem eX2_settle_297 : Dc cX2_settle 297 (.dup2) 1 298 := ⟨by decide +kernel, rfl⟩
theorem eX2_settle_298 : Dc cX2_settle 298 (.iaload) 1 299 := ⟨by decide +kernel, rfl⟩
theorem eX2_settle_299 : Dc cX2_settle 299 (.aload_n 0) 1 300 := ⟨by decide +kernel, rfl⟩
theorem eX2_settle_300 : Dc cX2_settle 300 (.getfield 8) 3 303 := ⟨by decide +kernel, rfl⟩
theorem eX2_settle_303 : Dc cX2_settle 303 (.sipush 11530) 3 306 := ⟨by decide +kernel, rfl⟩
theorem eX2_settle_306 : Dc cX2_settle 306 (.bipush 9) 2 308 := ⟨by decide +kernel, rfl⟩
theorem eX2_settle_308 : Dc cX2_settle 308 (.iload_n 2) 1 309 := ⟨by decide +kernel, rfl⟩
theorem eX2_settle_309 : Dc cX2_settle 309 (.imul) 1 310 := ⟨by decide +kernel, rfl⟩
theorem eX2_settle_310 : Dc cX2_settle 310 (.iadd) 1 311 := ⟨by decide +kernel, rfl⟩
theorem eX2_settle_311 : Dc cX2_settle 311 (.iload_n 3) 1 312 := ⟨by decide +kernel, rfl⟩
theorem eX2_settle_312 : Dc cX2_settle 312 (.iadd) 1 313 := ⟨by decide +kernel, rfl⟩
theorem eX2_settle_313 : Dc cX2_settle 313 (.iaload) 1 314 := ⟨by decide +kernel, rfl⟩
theorem eX2_settle_314 : Dc cX2_settle 314 (.iadd) 1 315 := ⟨by decide +kernel, rfl⟩
theorem eX2_settle_315 : Dc cX2_settle 315 (.iastore) 1 316 := ⟨by decide +kernel, rfl⟩
theorem eX2_settle_316 : Dc cX2_settle 316 (.aload_n 0) 1 317 := ⟨by decide +kernel, rfl⟩
theorem eX2_settle_317 : Dc cX2_settle 317 (.getfield 8) 3 320 := ⟨by decide +kernel, rfl⟩
theorem eX2_settle_320 : Dc cX2_settle 320 (.sipush 11530) 3 323 := ⟨by decide +kernel, rfl⟩
theorem eX2_settle_323 : Dc cX2_settle 323 (.bipush 9) 2 325 := ⟨by decide +kernel, rfl⟩
theorem eX2_settle_325 : Dc cX2_settle 325 (.iload_n 2) 1 326 := ⟨by decide +kernel, rfl⟩
theorem eX2_settle_326 : Dc cX2_settle 326 (.imul) 1 327 := ⟨by decide +kernel, rfl⟩
theorem eX2_settle_327 : Dc cX2_settle 327 (.iadd) 1 328 := ⟨by decide +kernel, rfl⟩
theorem eX2_settle_328 : Dc cX2_settle 328 (.iload_n 3) 1 329 := ⟨by decide +kernel, rfl⟩
theorem eX2_settle_329 : Dc cX2_settle 329 (.iadd) 1 330 := ⟨by decide +kernel, rfl⟩
theorem eX2_settle_330 : Dc cX2_settle 330 (.iconst 0) 1 331 := ⟨by decide +kernel, rfl⟩
theorem eX2_settle_331 : Dc cX2_settle 331 (.iastore) 1 332 := ⟨by decide +kernel, rfl⟩
theorem eX2_settle_332 : Dc cX2_settle 332 (.iinc 3 1) 3 335 := ⟨by decide +kernel, rfl⟩
theorem eX2_settle_335 : Db cX2_settle 335 (fun o => .goto o) 248 338 := ⟨-87, by decide +kernel, by decide, rfl⟩
theorem eX2_settle_338 : Dc cX2_settle 338 (.iload_n 1) 1 339 := ⟨by decide +kernel, rfl⟩
theorem eX2_settle_339 : Dc cX2_settle 339 (.bipush 8) 2 341 := ⟨by decide +kernel, rfl⟩
theorem eX2_settle_341 : Dc cX2_settle 341 (.iload_n 2) 1 342 := ⟨by decide +kernel, rfl⟩
theorem eX2_settle_342 : Dc cX2_settle 342 (.iadd) 1 343 := ⟨by decide +kernel, rfl⟩
theorem eX2_settle_343 : Dc cX2_settle 343 (.ishr) 1 344 := ⟨by decide +kernel, rfl⟩
theorem eX2_settle_344 : Dc cX2_settle 344 (.iconst 1) 1 345 := ⟨by decide +kernel, rfl⟩
theorem eX2_settle_345 : Dc cX2_settle 345 (.iand) 1 346 := ⟨by decide +kernel, rfl⟩
theorem eX2_settle_346 : Dc cX2_settle 346 (.iconst 1) 1 347 := ⟨by decide +kernel, rfl⟩
theorem eX2_settle_347 : Db cX2_settle 347 (fun o => .if_icmp .ne o) 370 350 := ⟨23, by decide +kernel, by decide, rfl⟩
theorem eX2_settle_350 : Dc cX2_settle 350 (.aload_n 0) 1 351 := ⟨by decide +kernel, rfl⟩
theorem eX2_settle_351 : Dc cX2_settle 351 (.getfield 8) 3 354 := ⟨by decide +kernel, rfl⟩
theorem eX2_settle_354 : Dc cX2_settle 354 (.sipush 790) 3 357 := ⟨by decide +kernel, rfl⟩
theorem eX2_settle_357 : Dc cX2_settle 357 (.aload_n 0) 1 358 := ⟨by decide +kernel, rfl⟩
theorem eX2_settle_358 : Dc cX2_settle 358 (.getfield 8) 3 361 := ⟨by decide +kernel, rfl⟩
theorem eX2_settle_361 : Dc cX2_settle 361 (.sipush 11490) 3 364 := ⟨by decide +kernel, rfl⟩
theorem eX2_settle_364 : Dc cX2_settle 364 (.iload_n 2) 1 365 := ⟨by decide +kernel, rfl⟩
theorem eX2_settle_365 : Dc cX2_settle 365 (.iadd) 1 366 := ⟨by decide +kernel, rfl⟩
theorem eX2_settle_366 : Dc cX2_settle 366 (.iaload) 1 367 := ⟨by decide +kernel, rfl⟩
theorem eX2_settle_367 : Dc cX2_settle 367 (.iadd) 1 368 := ⟨by decide +kernel, rfl⟩
theorem eX2_settle_368 : Dc cX2_settle 368 (.iconst 1) 1 369 := ⟨by decide +kernel, rfl⟩
theorem eX2_settle_369 : Dc cX2_settle 369 (.iastore) 1 370 := ⟨by decide +kernel, rfl⟩
theorem eX2_settle_370 : Dc cX2_settle 370 (.iinc 2 1) 3 373 := ⟨by decide +kernel, rfl⟩
theorem eX2_settle_373 : Db cX2_settle 373 (fun o => .goto o) 235 376 := ⟨-138, by decide +kernel, by decide, rfl⟩
theorem eX2_settle_376 : Dc cX2_settle 376 (.iload_n 1) 1 377 := ⟨by decide +kernel, rfl⟩
theorem eX2_settle_377 : Dc cX2_settle 377 (.ireturn) 1 378 := ⟨by decide +kernel, rfl⟩
theorem eX2_dig_0 : Dc cX2_dig 0 (.iload_n 1) 1 1 := ⟨by decide +kernel, rfl⟩
theorem eX2_dig_1 : Dc cX2_dig 1 (.iconst 1) 1 2 := ⟨by decide +kernel, rfl⟩
theorem eX2_dig_2 : Dc cX2_dig 2 (.bipush 50) 2 4 := ⟨by decide +kernel, rfl⟩
theorem eX2_dig_4 : Dc cX2_dig 4 (.invokestatic 58) 3 7 := ⟨by decide +kernel, rfl⟩
theorem eX2_dig_7 : Db cX2_dig 7 (fun o => .ifCond .eq o) 24 10 := ⟨17, by decide +kernel, by decide, rfl⟩
theorem eX2_dig_10 : Dc cX2_dig 10 (.aload_n 0) 1 11 := ⟨by decide +kernel, rfl⟩
theorem eX2_dig_11 : Dc cX2_dig 11 (.getfield 8) 3 14 := ⟨by decide +kernel, rfl⟩
theorem eX2_dig_14 : Dc cX2_dig 14 (.iconst 0) 1 15 := ⟨by decide +kernel, rfl⟩
theorem eX2_dig_15 : Dc cX2_dig 15 (.iaload) 1 16 := ⟨by decide +kernel, rfl⟩
theorem eX2_dig_16 : Dc cX2_dig 16 (.iload_n 1) 1 17 := ⟨by decide +kernel, rfl⟩
theorem eX2_dig_17 : Dc cX2_dig 17 (.iadd) 1 18 := ⟨by decide +kernel, rfl⟩
theorem eX2_dig_18 : Dc cX2_dig 18 (.sipush 999) 3 21 := ⟨by decide +kernel, rfl⟩
theorem eX2_dig_21 : Db cX2_dig 21 (fun o => .if_icmp .le o) 27 24 := ⟨6, by decide +kernel, by decide, rfl⟩
theorem eX2_dig_24 : Dc cX2_dig 24 (.bipush (-2)) 2 26 := ⟨by decide +kernel, rfl⟩
theorem eX2_dig_26 : Dc cX2_dig 26 (.ireturn) 1 27 := ⟨by decide +kernel, rfl⟩
theorem eX2_dig_27 : Dc cX2_dig 27 (.iconst 0) 1 28 := ⟨by decide +kernel, rfl⟩
theorem eX2_dig_28 : Dc cX2_dig 28 (.istore_n 2) 1 29 := ⟨by decide +kernel, rfl⟩
theorem eX2_dig_29 : Dc cX2_dig 29 (.iload_n 2) 1 30 := ⟨by decide +kernel, rfl⟩
theorem eX2_dig_30 : Dc cX2_dig 30 (.iload_n 1) 1 31 := ⟨by decide +kernel, rfl⟩
theorem eX2_dig_31 : Db cX2_dig 31 (fun o => .if_icmp .ge o) 44 34 := ⟨13, by decide +kernel, by decide, rfl⟩
theorem eX2_dig_34 : Dc cX2_dig 34 (.aload_n 0) 1 35 := ⟨by decide +kernel, rfl⟩
theorem eX2_dig_35 : Dc cX2_dig 35 (.invokevirtual 266) 3 38 := ⟨by decide +kernel, rfl⟩
theorem eX2_dig_38 : Dc cX2_dig 38 (.iinc 2 1) 3 41 := ⟨by decide +kernel, rfl⟩
theorem eX2_dig_41 : Db cX2_dig 41 (fun o => .goto o) 29 44 := ⟨-12, by decide +kernel, by decide, rfl⟩
theorem eX2_dig_44 : Dc cX2_dig 44 (.aload_n 0) 1 45 := ⟨by decide +kernel, rfl⟩
theorem eX2_dig_45 : Dc cX2_dig 45 (.getfield 8) 3 48 := ⟨by decide +kernel, rfl⟩
theorem eX2_dig_48 : Dc cX2_dig 48 (.iconst 0) 1 49 := ⟨by decide +kernel, rfl⟩
theorem eX2_dig_49 : Dc cX2_dig 49 (.iaload) 1 50 := ⟨by decide +kernel, rfl⟩
theorem eX2_dig_50 : Dc cX2_dig 50 (.ireturn) 1 51 := ⟨by decide +kernel, rfl⟩
theorem eX2_digs_0 : Dc cX2_digs 0 (.aload_n 0) 1 1 := ⟨by decide +kernel, rfl⟩
theorem eX2_digs_1 : Dc cX2_digs 1 (.getfield 8) 3 4 := ⟨by decide +kernel, rfl⟩
theorem eX2_digs_4 : Dc cX2_digs 4 (.iconst 0) 1 5 := ⟨by decide +kernel, rfl⟩
theorem eX2_digs_5 : Dc cX2_digs 5 (.iaload) 1 6 := ⟨by decide +kernel, rfl⟩
theorem eX2_digs_6 : Dc cX2_digs 6 (.istore_n 1) 1 7 := ⟨by decide +kernel, rfl⟩
theorem eX2_digs_7 : Dc cX2_digs 7 (.iconst 3) 1 8 := ⟨by decide +kernel, rfl⟩
theorem eX2_digs_8 : Dc cX2_digs 8 (.aload_n 0) 1 9 := ⟨by decide +kernel, rfl⟩
theorem eX2_digs_9 : Dc cX2_digs 9 (.getfield 8) 3 12 := ⟨by decide +kernel, rfl⟩
theorem eX2_digs_12 : Dc cX2_digs 12 (.iconst 5) 1 13 := ⟨by decide +kernel, rfl⟩
theorem eX2_digs_13 : Dc cX2_digs 13 (.iaload) 1 14 := ⟨by decide +kernel, rfl⟩
theorem eX2_digs_14 : Dc cX2_digs 14 (.imul) 1 15 := ⟨by decide +kernel, rfl⟩
theorem eX2_digs_15 : Dc cX2_digs 15 (.istore_n 2) 1 16 := ⟨by decide +kernel, rfl⟩
theorem eX2_digs_16 : Dc cX2_digs 16 (.iconst 0) 1 17 := ⟨by decide +kernel, rfl⟩
theorem eX2_digs_17 : Dc cX2_digs 17 (.istore_n 3) 1 18 := ⟨by decide +kernel, rfl⟩
theorem eX2_digs_18 : Dc cX2_digs 18 (.iload_n 3) 1 19 := ⟨by decide +kernel, rfl⟩
theorem eX2_digs_19 : Dc cX2_digs 19 (.aload_n 0) 1 20 := ⟨by decide +kernel, rfl⟩
theorem eX2_digs_20 : Dc cX2_digs 20 (.getfield 8) 3 23 := ⟨by decide +kernel, rfl⟩
theorem eX2_digs_23 : Dc cX2_digs 23 (.iconst 2) 1 24 := ⟨by decide +kernel, rfl⟩
theorem eX2_digs_24 : Dc cX2_digs 24 (.iaload) 1 25 := ⟨by decide +kernel, rfl⟩
theorem eX2_digs_25 : Db cX2_digs 25 (fun o => .if_icmp .ge o) 213 28 := ⟨188, by decide +kernel, by decide, rfl⟩
theorem eX2_digs_28 : Dc cX2_digs 28 (.aload_n 0) 1 29 := ⟨by decide +kernel, rfl⟩
theorem eX2_digs_29 : Dc cX2_digs 29 (.iload_n 3) 1 30 := ⟨by decide +kernel, rfl⟩
theorem eX2_digs_30 : Dc cX2_digs 30 (.invokevirtual 219) 3 33 := ⟨by decide +kernel, rfl⟩
theorem eX2_digs_33 : Db cX2_digs 33 (fun o => .ifCond .eq o) 207 36 := ⟨174, by decide +kernel, by decide, rfl⟩
theorem eX2_digs_36 : Dc cX2_digs 36 (.aload_n 0) 1 37 := ⟨by decide +kernel, rfl⟩
theorem eX2_digs_37 : Dc cX2_digs 37 (.getfield 8) 3 40 := ⟨by decide +kernel, rfl⟩
theorem eX2_digs_40 : Dc cX2_digs 40 (.sipush 970) 3 43 := ⟨by decide +kernel, rfl⟩
theorem eX2_digs_43 : Dc cX2_digs 43 (.iload_n 3) 1 44 := ⟨by decide +kernel, rfl⟩
theorem eX2_digs_44 : Dc cX2_digs 44 (.iadd) 1 45 := ⟨by decide +kernel, rfl⟩
theorem eX2_digs_45 : Dc cX2_digs 45 (.iaload) 1 46 := ⟨by decide +kernel, rfl⟩
theorem eX2_digs_46 : Db cX2_digs 46 (fun o => .ifCond .le o) 207 49 := ⟨161, by decide +kernel, by decide, rfl⟩
theorem eX2_digs_49 : Dc cX2_digs 49 (.aload_n 0) 1 50 := ⟨by decide +kernel, rfl⟩
theorem eX2_digs_50 : Dc cX2_digs 50 (.aload_n 0) 1 51 := ⟨by decide +kernel, rfl⟩
theorem eX2_digs_51 : Dc cX2_digs 51 (.iload_n 3) 1 52 := ⟨by decide +kernel, rfl⟩
theorem eX2_digs_52 : Dc cX2_digs 52 (.invokevirtual 263) 3 55 := ⟨by decide +kernel, rfl⟩
theorem eX2_digs_55 : Dc cX2_digs 55 (.invokevirtual 244) 3 58 := ⟨by decide +kernel, rfl⟩
theorem eX2_digs_58 : Db cX2_digs 58 (fun o => .ifCond .ne o) 207 61 := ⟨149, by decide +kernel, by decide, rfl⟩
theorem eX2_digs_61 : Dc cX2_digs 61 (.sipush 11502) 3 64 := ⟨by decide +kernel, rfl⟩
theorem eX2_digs_64 : Dc cX2_digs 64 (.aload_n 0) 1 65 := ⟨by decide +kernel, rfl⟩
theorem eX2_digs_65 : Dc cX2_digs 65 (.aload_n 0) 1 66 := ⟨by decide +kernel, rfl⟩
theorem eX2_digs_66 : Dc cX2_digs 66 (.iload_n 3) 1 67 := ⟨by decide +kernel, rfl⟩
theorem eX2_digs_67 : Dc cX2_digs 67 (.invokevirtual 263) 3 70 := ⟨by decide +kernel, rfl⟩
theorem eX2_digs_70 : Dc cX2_digs 70 (.invokevirtual 238) 3 73 := ⟨by decide +kernel, rfl⟩
theorem eX2_digs_73 : Dc cX2_digs 73 (.iadd) 1 74 := ⟨by decide +kernel, rfl⟩
theorem eX2_digs_74 : Dc cX2_digs 74 (.istore 4) 2 76 := ⟨by decide +kernel, rfl⟩
theorem eX2_digs_76 : Dc cX2_digs 76 (.aload_n 0) 1 77 := ⟨by decide +kernel, rfl⟩
theorem eX2_digs_77 : Dc cX2_digs 77 (.getfield 8) 3 80 := ⟨by decide +kernel, rfl⟩
theorem eX2_digs_80 : Dc cX2_digs 80 (.sipush 970) 3 83 := ⟨by decide +kernel, rfl⟩
theorem eX2_digs_83 : Dc cX2_digs 83 (.iload_n 3) 1 84 := ⟨by decide +kernel, rfl⟩
theorem eX2_digs_84 : Dc cX2_digs 84 (.iadd) 1 85 := ⟨by decide +kernel, rfl⟩
theorem eX2_digs_85 : Dc cX2_digs 85 (.iaload) 1 86 := ⟨by decide +kernel, rfl⟩
theorem eX2_digs_86 : Dc cX2_digs 86 (.iload_n 2) 1 87 := ⟨by decide +kernel, rfl⟩
theorem eX2_digs_87 : Db cX2_digs 87 (fun o => .if_icmp .ge o) 103 90 := ⟨16, by decide +kernel, by decide, rfl⟩
theorem eX2_digs_90 : Dc cX2_digs 90 (.aload_n 0) 1 91 := ⟨by decide +kernel, rfl⟩
theorem eX2_digs_91 : Dc cX2_digs 91 (.getfield 8) 3 94 := ⟨by decide +kernel, rfl⟩
theorem eX2_digs_94 : Dc cX2_digs 94 (.sipush 970) 3 97 := ⟨by decide +kernel, rfl⟩
theorem eX2_digs_97 : Dc cX2_digs 97 (.iload_n 3) 1 98 := ⟨by decide +kernel, rfl⟩
theorem eX2_digs_98 : Dc cX2_digs 98 (.iadd) 1 99 := ⟨by decide +kernel, rfl⟩
theorem eX2_digs_99 : Dc cX2_digs 99 (.iaload) 1 100 := ⟨by decide +kernel, rfl⟩
theorem eX2_digs_100 : Db cX2_digs 100 (fun o => .goto o) 104 103 := ⟨4, by decide +kernel, by decide, rfl⟩
theorem eX2_digs_103 : Dc cX2_digs 103 (.iload_n 2) 1 104 := ⟨by decide +kernel, rfl⟩
theorem eX2_digs_104 : Dc cX2_digs 104 (.istore 5) 2 106 := ⟨by decide +kernel, rfl⟩
theorem eX2_digs_106 : Dc cX2_digs 106 (.aload_n 0) 1 107 := ⟨by decide +kernel, rfl⟩
theorem eX2_digs_107 : Dc cX2_digs 107 (.getfield 8) 3 110 := ⟨by decide +kernel, rfl⟩
theorem eX2_digs_110 : Dc cX2_digs 110 (.iload 4) 2 112 := ⟨by decide +kernel, rfl⟩
theorem eX2_digs_112 : Dc cX2_digs 112 (.iaload) 1 113 := ⟨by decide +kernel, rfl⟩
theorem eX2_digs_113 : Dc cX2_digs 113 (.iconst 2) 1 114 := ⟨by decide +kernel, rfl⟩
theorem eX2_digs_114 : Dc cX2_digs 114 (.idiv) 1 115 := ⟨by decide +kernel, rfl⟩
theorem eX2_digs_115 : Dc cX2_digs 115 (.iload 5) 2 117 := ⟨by decide +kernel, rfl⟩
theorem eX2_digs_117 : Db cX2_digs 117 (fun o => .if_icmp .ge o) 132 120 := ⟨15, by decide +kernel, by decide, rfl⟩
theorem eX2_digs_120 : Dc cX2_digs 120 (.aload_n 0) 1 121 := ⟨by decide +kernel, rfl⟩
theorem eX2_digs_121 : Dc cX2_digs 121 (.getfield 8) 3 124 := ⟨by decide +kernel, rfl⟩
theorem eX2_digs_124 : Dc cX2_digs 124 (.iload 4) 2 126 := ⟨by decide +kernel, rfl⟩
theorem eX2_digs_126 : Dc cX2_digs 126 (.iaload) 1 127 := ⟨by decide +kernel, rfl⟩
theorem eX2_digs_127 : Dc cX2_digs 127 (.iconst 2) 1 128 := ⟨by decide +kernel, rfl⟩
theorem eX2_digs_128 : Dc cX2_digs 128 (.idiv) 1 129 := ⟨by decide +kernel, rfl⟩
theorem eX2_digs_129 : Db cX2_digs 129 (fun o => .goto o) 134 132 := ⟨5, by decide +kernel, by decide, rfl⟩
theorem eX2_digs_132 : Dc cX2_digs 132 (.iload 5) 2 134 := ⟨by decide +kernel, rfl⟩
theorem eX2_digs_134 : Dc cX2_digs 134 (.istore 5) 2 136 := ⟨by decide +kernel, rfl⟩
theorem eX2_digs_136 : Dc cX2_digs 136 (.iload_n 2) 1 137 := ⟨by decide +kernel, rfl⟩
theorem eX2_digs_137 : Dc cX2_digs 137 (.iload 5) 2 139 := ⟨by decide +kernel, rfl⟩
theorem eX2_digs_139 : Dc cX2_digs 139 (.isub) 1 140 := ⟨by decide +kernel, rfl⟩
theorem eX2_digs_140 : Dc cX2_digs 140 (.istore_n 2) 1 141 := ⟨by decide +kernel, rfl⟩
theorem eX2_digs_141 : Dc cX2_digs 141 (.aload_n 0) 1 142 := ⟨by decide +kernel, rfl⟩
theorem eX2_digs_142 : Dc cX2_digs 142 (.getfield 8) 3 145 := ⟨by decide +kernel, rfl⟩
theorem eX2_digs_145 : Dc cX2_digs 145 (.iload 4) 2 147 := ⟨by decide +kernel, rfl⟩
theorem eX2_digs_147 : Dc cX2_digs 147 (.dup2) 1 148 := ⟨by decide +kernel, rfl⟩
theorem eX2_digs_148 : Dc cX2_digs 148 (.iaload) 1 149 := ⟨by decide +kernel, rfl⟩
theorem eX2_digs_149 : Dc cX2_digs 149 (.iconst 2) 1 150 := ⟨by decide +kernel, rfl⟩
theorem eX2_digs_150 : Dc cX2_digs 150 (.iload 5) 2 152 := ⟨by decide +kernel, rfl⟩
theorem eX2_digs_152 : Dc cX2_digs 152 (.imul) 1 153 := ⟨by decide +kernel, rfl⟩
theorem eX2_digs_153 : Dc cX2_digs 153 (.isub) 1 154 := ⟨by decide +kernel, rfl⟩
theorem eX2_digs_154 : Dc cX2_digs 154 (.iastore) 1 155 := ⟨by decide +kernel, rfl⟩
theorem eX2_digs_155 : Dc cX2_digs 155 (.aload_n 0) 1 156 := ⟨by decide +kernel, rfl⟩
theorem eX2_digs_156 : Dc cX2_digs 156 (.getfield 8) 3 159 := ⟨by decide +kernel, rfl⟩
theorem eX2_digs_159 : Dc cX2_digs 159 (.sipush 970) 3 162 := ⟨by decide +kernel, rfl⟩
theorem eX2_digs_162 : Dc cX2_digs 162 (.iload_n 3) 1 163 := ⟨by decide +kernel, rfl⟩
theorem eX2_digs_163 : Dc cX2_digs 163 (.iadd) 1 164 := ⟨by decide +kernel, rfl⟩
theorem eX2_digs_164 : Dc cX2_digs 164 (.dup2) 1 165 := ⟨by decide +kernel, rfl⟩
theorem eX2_digs_165 : Dc cX2_digs 165 (.iaload) 1 166 := ⟨by decide +kernel, rfl⟩
theorem eX2_digs_166 : Dc cX2_digs 166 (.iload 5) 2 168 := ⟨by decide +kernel, rfl⟩
theorem eX2_digs_168 : Dc cX2_digs 168 (.isub) 1 169 := ⟨by decide +kernel, rfl⟩
theorem eX2_digs_169 : Dc cX2_digs 169 (.iastore) 1 170 := ⟨by decide +kernel, rfl⟩
theorem eX2_digs_170 : Dc cX2_digs 170 (.aload_n 0) 1 171 := ⟨by decide +kernel, rfl⟩
theorem eX2_digs_171 : Dc cX2_digs 171 (.getfield 8) 3 174 := ⟨by decide +kernel, rfl⟩
theorem eX2_digs_174 : Dc cX2_digs 174 (.sipush 1030) 3 177 := ⟨by decide +kernel, rfl⟩
theorem eX2_digs_177 : Dc cX2_digs 177 (.iload_n 3) 1 178 := ⟨by decide +kernel, rfl⟩
theorem eX2_digs_178 : Dc cX2_digs 178 (.iadd) 1 179 := ⟨by decide +kernel, rfl⟩
theorem eX2_digs_179 : Dc cX2_digs 179 (.aload_n 0) 1 180 := ⟨by decide +kernel, rfl⟩
theorem eX2_digs_180 : Dc cX2_digs 180 (.getfield 8) 3 183 := ⟨by decide +kernel, rfl⟩
theorem eX2_digs_183 : Dc cX2_digs 183 (.sipush 970) 3 186 := ⟨by decide +kernel, rfl⟩
theorem eX2_digs_186 : Dc cX2_digs 186 (.iload_n 3) 1 187 := ⟨by decide +kernel, rfl⟩
theorem eX2_digs_187 : Dc cX2_digs 187 (.iadd) 1 188 := ⟨by decide +kernel, rfl⟩
theorem eX2_digs_188 : Dc cX2_digs 188 (.iaload) 1 189 := ⟨by decide +kernel, rfl⟩
theorem eX2_digs_189 : Db cX2_digs 189 (fun o => .ifCond .ne o) 196 192 := ⟨7, by decide +kernel, by decide, rfl⟩
theorem eX2_digs_192 : Dc cX2_digs 192 (.iload_n 1) 1 193 := ⟨by decide +kernel, rfl⟩
theorem eX2_digs_193 : Db cX2_digs 193 (fun o => .goto o) 206 196 := ⟨13, by decide +kernel, by decide, rfl⟩
theorem eX2_digs_196 : Dc cX2_digs 196 (.aload_n 0) 1 197 := ⟨by decide +kernel, rfl⟩
theorem eX2_digs_197 : Dc cX2_digs 197 (.getfield 8) 3 200 := ⟨by decide +kernel, rfl⟩
theorem eX2_digs_200 : Dc cX2_digs 200 (.sipush 1030) 3 203 := ⟨by decide +kernel, rfl⟩
theorem eX2_digs_203 : Dc cX2_digs 203 (.iload_n 3) 1 204 := ⟨by decide +kernel, rfl⟩
theorem eX2_digs_204 : Dc cX2_digs 204 (.iadd) 1 205 := ⟨by decide +kernel, rfl⟩
theorem eX2_digs_205 : Dc cX2_digs 205 (.iaload) 1 206 := ⟨by decide +kernel, rfl⟩
theorem eX2_digs_206 : Dc cX2_digs 206 (.iastore) 1 207 := ⟨by decide +kernel, rfl⟩
theorem eX2_digs_207 : Dc cX2_digs 207 (.iinc 3 1) 3 210 := ⟨by decide +kernel, rfl⟩
theorem eX2_digs_210 : Db cX2_digs 210 (fun o => .goto o) 18 213 := ⟨-192, by decide +kernel, by decide, rfl⟩
theorem eX2_digs_213 : Dc cX2_digs 213 (.iconst 0) 1 214 := ⟨by decide +kernel, rfl⟩
theorem eX2_digs_214 : Dc cX2_digs 214 (.istore_n 3) 1 215 := ⟨by decide +kernel, rfl⟩
theorem eX2_digs_215 : Dc cX2_digs 215 (.iload_n 3) 1 216 := ⟨by decide +kernel, rfl⟩
theorem eX2_digs_216 : Dc cX2_digs 216 (.bipush 12) 2 218 := ⟨by decide +kernel, rfl⟩
theorem eX2_digs_218 : Db cX2_digs 218 (fun o => .if_icmp .ge o) 268 221 := ⟨50, by decide +kernel, by decide, rfl⟩
theorem eX2_digs_221 : Dc cX2_digs 221 (.aload_n 0) 1 222 := ⟨by decide +kernel, rfl⟩
theorem eX2_digs_222 : Dc cX2_digs 222 (.getfield 8) 3 225 := ⟨by decide +kernel, rfl⟩
theorem eX2_digs_225 : Dc cX2_digs 225 (.sipush 11840) 3 228 := ⟨by decide +kernel, rfl⟩
theorem eX2_digs_228 : Dc cX2_digs 228 (.sipush 1000) 3 231 := ⟨by decide +kernel, rfl⟩
theorem eX2_digs_231 : Dc cX2_digs 231 (.iload_n 3) 1 232 := ⟨by decide +kernel, rfl⟩
theorem eX2_digs_232 : Dc cX2_digs 232 (.imul) 1 233 := ⟨by decide +kernel, rfl⟩
theorem eX2_digs_233 : Dc cX2_digs 233 (.iadd) 1 234 := ⟨by decide +kernel, rfl⟩
theorem eX2_digs_234 : Dc cX2_digs 234 (.iload_n 1) 1 235 := ⟨by decide +kernel, rfl⟩
theorem eX2_digs_235 : Dc cX2_digs 235 (.iadd) 1 236 := ⟨by decide +kernel, rfl⟩
theorem eX2_digs_236 : Dc cX2_digs 236 (.iload_n 3) 1 237 := ⟨by decide +kernel, rfl⟩
theorem eX2_digs_237 : Dc cX2_digs 237 (.aload_n 0) 1 238 := ⟨by decide +kernel, rfl⟩
theorem eX2_digs_238 : Dc cX2_digs 238 (.getfield 8) 3 241 := ⟨by decide +kernel, rfl⟩
theorem eX2_digs_241 : Dc cX2_digs 241 (.bipush 9) 2 243 := ⟨by decide +kernel, rfl⟩
theorem eX2_digs_243 : Dc cX2_digs 243 (.iaload) 1 244 := ⟨by decide +kernel, rfl⟩
theorem eX2_digs_244 : Db cX2_digs 244 (fun o => .if_icmp .ge o) 260 247 := ⟨16, by decide +kernel, by decide, rfl⟩
theorem eX2_digs_247 : Dc cX2_digs 247 (.aload_n 0) 1 248 := ⟨by decide +kernel, rfl⟩
theorem eX2_digs_248 : Dc cX2_digs 248 (.getfield 8) 3 251 := ⟨by decide +kernel, rfl⟩
theorem eX2_digs_251 : Dc cX2_digs 251 (.sipush 11502) 3 254 := ⟨by decide +kernel, rfl⟩
theorem eX2_digs_254 : Dc cX2_digs 254 (.iload_n 3) 1 255 := ⟨by decide +kernel, rfl⟩
theorem eX2_digs_255 : Dc cX2_digs 255 (.iadd) 1 256 := ⟨by decide +kernel, rfl⟩
theorem eX2_digs_256 : Dc cX2_digs 256 (.iaload) 1 257 := ⟨by decide +kernel, rfl⟩
theorem eX2_digs_257 : Db cX2_digs 257 (fun o => .goto o) 261 260 := ⟨4, by decide +kernel, by decide, rfl⟩
theorem eX2_digs_260 : Dc cX2_digs 260 (.iconst (-1)) 1 261 := ⟨by decide +kernel, rfl⟩
theorem eX2_digs_261 : Dc cX2_digs 261 (.iastore) 1 262 := ⟨by decide +kernel, rfl⟩
theorem eX2_digs_262 : Dc cX2_digs 262 (.iinc 3 1) 3 265 := ⟨by decide +kernel, rfl⟩
theorem eX2_digs_265 : Db cX2_digs 265 (fun o => .goto o) 215 268 := ⟨-50, by decide +kernel, by decide, rfl⟩
theorem eX2_digs_268 : Dc cX2_digs 268 (.iconst 0) 1 269 := ⟨by decide +kernel, rfl⟩
theorem eX2_digs_269 : Dc cX2_digs 269 (.istore_n 3) 1 270 := ⟨by decide +kernel, rfl⟩
theorem eX2_digs_270 : Dc cX2_digs 270 (.iload_n 3) 1 271 := ⟨by decide +kernel, rfl⟩
theorem eX2_digs_271 : Dc cX2_digs 271 (.bipush 60) 2 273 := ⟨by decide +kernel, rfl⟩
theorem eX2_digs_273 : Db cX2_digs 273 (fun o => .if_icmp .ge o) 330 276 := ⟨57, by decide +kernel, by decide, rfl⟩
theorem eX2_digs_276 : Dc cX2_digs 276 (.aload_n 0) 1 277 := ⟨by decide +kernel, rfl⟩
theorem eX2_digs_277 : Dc cX2_digs 277 (.getfield 8) 3 280 := ⟨by decide +kernel, rfl⟩
theorem eX2_digs_280 : Dc cX2_digs 280 (.sipush 23840) 3 283 := ⟨by decide +kernel, rfl⟩
theorem eX2_digs_283 : Dc cX2_digs 283 (.sipush 1000) 3 286 := ⟨by decide +kernel, rfl⟩
theorem eX2_digs_286 : Dc cX2_digs 286 (.iload_n 3) 1 287 := ⟨by decide +kernel, rfl⟩
theorem eX2_digs_287 : Dc cX2_digs 287 (.imul) 1 288 := ⟨by decide +kernel, rfl⟩
theorem eX2_digs_288 : Dc cX2_digs 288 (.iadd) 1 289 := ⟨by decide +kernel, rfl⟩
theorem eX2_digs_289 : Dc cX2_digs 289 (.iload_n 1) 1 290 := ⟨by decide +kernel, rfl⟩
theorem eX2_digs_290 : Dc cX2_digs 290 (.iadd) 1 291 := ⟨by decide +kernel, rfl⟩
theorem eX2_digs_291 : Dc cX2_digs 291 (.iload_n 3) 1 292 := ⟨by decide +kernel, rfl⟩
theorem eX2_digs_292 : Dc cX2_digs 292 (.aload_n 0) 1 293 := ⟨by decide +kernel, rfl⟩
theorem eX2_digs_293 : Dc cX2_digs 293 (.getfield 8) 3 296 := ⟨by decide +kernel, rfl⟩
theorem eX2_digs_296 : Dc cX2_digs 296 (.iconst 2) 1 297 := ⟨by decide +kernel, rfl⟩
theorem eX2_digs_297 : Dc cX2_digs 297 (.iaload) 1 298 := ⟨by decide +kernel, rfl⟩
theorem eX2_digs_298 : Db cX2_digs 298 (fun o => .if_icmp .ge o) 322 301 := ⟨24, by decide +kernel, by decide, rfl⟩
theorem eX2_digs_301 : Dc cX2_digs 301 (.aload_n 0) 1 302 := ⟨by decide +kernel, rfl⟩
theorem eX2_digs_302 : Dc cX2_digs 302 (.iload_n 3) 1 303 := ⟨by decide +kernel, rfl⟩
theorem eX2_digs_303 : Dc cX2_digs 303 (.invokevirtual 219) 3 306 := ⟨by decide +kernel, rfl⟩
theorem eX2_digs_306 : Db cX2_digs 306 (fun o => .ifCond .eq o) 322 309 := ⟨16, by decide +kernel, by decide, rfl⟩
theorem eX2_digs_309 : Dc cX2_digs 309 (.aload_n 0) 1 310 := ⟨by decide +kernel, rfl⟩
theorem eX2_digs_310 : Dc cX2_digs 310 (.getfield 8) 3 313 := ⟨by decide +kernel, rfl⟩
theorem eX2_digs_313 : Dc cX2_digs 313 (.sipush 970) 3 316 := ⟨by decide +kernel, rfl⟩
theorem eX2_digs_316 : Dc cX2_digs 316 (.iload_n 3) 1 317 := ⟨by decide +kernel, rfl⟩
theorem eX2_digs_317 : Dc cX2_digs 317 (.iadd) 1 318 := ⟨by decide +kernel, rfl⟩
theorem eX2_digs_318 : Dc cX2_digs 318 (.iaload) 1 319 := ⟨by decide +kernel, rfl⟩
theorem eX2_digs_319 : Db cX2_digs 319 (fun o => .goto o) 323 322 := ⟨4, by decide +kernel, by decide, rfl⟩
theorem eX2_digs_322 : Dc cX2_digs 322 (.iconst (-1)) 1 323 := ⟨by decide +kernel, rfl⟩
theorem eX2_digs_323 : Dc cX2_digs 323 (.iastore) 1 324 := ⟨by decide +kernel, rfl⟩
theorem eX2_digs_324 : Dc cX2_digs 324 (.iinc 3 1) 3 327 := ⟨by decide +kernel, rfl⟩
theorem eX2_digs_327 : Db cX2_digs 327 (fun o => .goto o) 270 330 := ⟨-57, by decide +kernel, by decide, rfl⟩
theorem eX2_digs_330 : Dc cX2_digs 330 (.aload_n 0) 1 331 := ⟨by decide +kernel, rfl⟩
theorem eX2_digs_331 : Dc cX2_digs 331 (.getfield 8) 3 334 := ⟨by decide +kernel, rfl⟩
theorem eX2_digs_334 : Dc cX2_digs 334 (.iconst 0) 1 335 := ⟨by decide +kernel, rfl⟩
theorem eX2_digs_335 : Dc cX2_digs 335 (.dup2) 1 336 := ⟨by decide +kernel, rfl⟩
theorem eX2_digs_336 : Dc cX2_digs 336 (.iaload) 1 337 := ⟨by decide +kernel, rfl⟩
theorem eX2_digs_337 : Dc cX2_digs 337 (.iconst 1) 1 338 := ⟨by decide +kernel, rfl⟩
theorem eX2_digs_338 : Dc cX2_digs 338 (.iadd) 1 339 := ⟨by decide +kernel, rfl⟩
theorem eX2_digs_339 : Dc cX2_digs 339 (.iastore) 1 340 := ⟨by decide +kernel, rfl⟩
theorem eX2_digs_340 : Dc cX2_digs 340 (.return_) 1 341 := ⟨by decide +kernel, rfl⟩
theorem eX2_schemeOf_0 : Dc cX2_schemeOf 0 (.aload_n 0) 1 1 := ⟨by decide +kernel, rfl⟩
theorem eX2_schemeOf_1 : Dc cX2_schemeOf 1 (.getfield 8) 3 4 := ⟨by decide +kernel, rfl⟩
theorem eX2_schemeOf_4 : Dc cX2_schemeOf 4 (.sipush 430) 3 7 := ⟨by decide +kernel, rfl⟩
theorem eX2_schemeOf_7 : Dc cX2_schemeOf 7 (.aload_n 0) 1 8 := ⟨by decide +kernel, rfl⟩
theorem eX2_schemeOf_8 : Dc cX2_schemeOf 8 (.getfield 8) 3 11 := ⟨by decide +kernel, rfl⟩
theorem eX2_schemeOf_11 : Dc cX2_schemeOf 11 (.sipush 430) 3 14 := ⟨by decide +kernel, rfl⟩
theorem eX2_schemeOf_14 : Dc cX2_schemeOf 14 (.iload_n 1) 1 15 := ⟨by decide +kernel, rfl⟩
theorem eX2_schemeOf_15 : Dc cX2_schemeOf 15 (.iadd) 1 16 := ⟨by decide +kernel, rfl⟩
theorem eX2_schemeOf_16 : Dc cX2_schemeOf 16 (.iaload) 1 17 := ⟨by decide +kernel, rfl⟩
theorem eX2_schemeOf_17 : Dc cX2_schemeOf 17 (.iadd) 1 18 := ⟨by decide +kernel, rfl⟩
theorem eX2_schemeOf_18 : Dc cX2_schemeOf 18 (.iaload) 1 19 := ⟨by decide +kernel, rfl⟩
theorem eX2_schemeOf_19 : Dc cX2_schemeOf 19 (.ireturn) 1 20 := ⟨by decide +kernel, rfl⟩
theorem eX2_last_0 : Dc cX2_last 0 (.aload_n 0) 1 1 := ⟨by decide +kernel, rfl⟩
theorem eX2_last_1 : Dc cX2_last 1 (.iload_n 1) 1 2 := ⟨by decide +kernel, rfl⟩
theorem eX2_last_2 : Dc cX2_last 2 (.iconst 3) 1 3 := ⟨by decide +kernel, rfl⟩
theorem eX2_last_3 : Dc cX2_last 3 (.invokevirtual 165) 3 6 := ⟨by decide +kernel, rfl⟩
theorem eX2_last_6 : Db cX2_last 6 (fun o => .ifCond .eq o) 18 9 := ⟨12, by decide +kernel, by decide, rfl⟩
theorem eX2_last_9 : Dc cX2_last 9 (.iload_n 2) 1 10 := ⟨by decide +kernel, rfl⟩
theorem eX2_last_10 : Dc cX2_last 10 (.iconst 0) 1 11 := ⟨by decide +kernel, rfl⟩
theorem eX2_last_11 : Dc cX2_last 11 (.iconst 1) 1 12 := ⟨by decide +kernel, rfl⟩
theorem eX2_last_12 : Dc cX2_last 12 (.invokestatic 58) 3 15 := ⟨by decide +kernel, rfl⟩
theorem eX2_last_15 : Db cX2_last 15 (fun o => .ifCond .ne o) 20 18 := ⟨5, by decide +kernel, by decide, rfl⟩
theorem eX2_last_18 : Dc cX2_last 18 (.iconst (-1)) 1 19 := ⟨by decide +kernel, rfl⟩
theorem eX2_last_19 : Dc cX2_last 19 (.ireturn) 1 20 := ⟨by decide +kernel, rfl⟩
theorem eX2_last_20 : Dc cX2_last 20 (.aload_n 0) 1 21 := ⟨by decide +kernel, rfl⟩
theorem eX2_last_21 : Dc cX2_last 21 (.iload_n 1) 1 22 := ⟨by decide +kernel, rfl⟩
theorem eX2_last_22 : Dc cX2_last 22 (.invokevirtual 219) 3 25 := ⟨by decide +kernel, rfl⟩
theorem eX2_last_25 : Db cX2_last 25 (fun o => .ifCond .ne o) 33 28 := ⟨8, by decide +kernel, by decide, rfl⟩
theorem eX2_last_28 : Dc cX2_last 28 (.bipush (-3)) 2 30 := ⟨by decide +kernel, rfl⟩
theorem eX2_last_30 : Db cX2_last 30 (fun o => .goto o) 60 33 := ⟨30, by decide +kernel, by decide, rfl⟩
theorem eX2_last_33 : Dc cX2_last 33 (.iload_n 2) 1 34 := ⟨by decide +kernel, rfl⟩
theorem eX2_last_34 : Db cX2_last 34 (fun o => .ifCond .ne o) 50 37 := ⟨16, by decide +kernel, by decide, rfl⟩
theorem eX2_last_37 : Dc cX2_last 37 (.aload_n 0) 1 38 := ⟨by decide +kernel, rfl⟩
theorem eX2_last_38 : Dc cX2_last 38 (.getfield 8) 3 41 := ⟨by decide +kernel, rfl⟩
theorem eX2_last_41 : Dc cX2_last 41 (.sipush 970) 3 44 := ⟨by decide +kernel, rfl⟩
theorem eX2_last_44 : Dc cX2_last 44 (.iload_n 1) 1 45 := ⟨by decide +kernel, rfl⟩
theorem eX2_last_45 : Dc cX2_last 45 (.iadd) 1 46 := ⟨by decide +kernel, rfl⟩
theorem eX2_last_46 : Dc cX2_last 46 (.iaload) 1 47 := ⟨by decide +kernel, rfl⟩
theorem eX2_last_47 : Db cX2_last 47 (fun o => .goto o) 60 50 := ⟨13, by decide +kernel, by decide, rfl⟩
theorem eX2_last_50 : Dc cX2_last 50 (.aload_n 0) 1 51 := ⟨by decide +kernel, rfl⟩
theorem eX2_last_51 : Dc cX2_last 51 (.getfield 8) 3 54 := ⟨by decide +kernel, rfl⟩
theorem eX2_last_54 : Dc cX2_last 54 (.sipush 1030) 3 57 := ⟨by decide +kernel, rfl⟩
theorem eX2_last_57 : Dc cX2_last 57 (.iload_n 1) 1 58 := ⟨by decide +kernel, rfl⟩
theorem eX2_last_58 : Dc cX2_last 58 (.iadd) 1 59 := ⟨by decide +kernel, rfl⟩
theorem eX2_last_59 : Dc cX2_last 59 (.iaload) 1 60 := ⟨by decide +kernel, rfl⟩
theorem eX2_last_60 : Dc cX2_last 60 (.ireturn) 1 61 := ⟨by decide +kernel, rfl⟩
theorem eX2_meet_0 : Dc cX2_meet 0 (.iconst 0) 1 1 := ⟨by decide +kernel, rfl⟩
theorem eX2_meet_1 : Dc cX2_meet 1 (.istore_n 1) 1 2 := ⟨by decide +kernel, rfl⟩
theorem eX2_meet_2 : Dc cX2_meet 2 (.iconst 0) 1 3 := ⟨by decide +kernel, rfl⟩
theorem eX2_meet_3 : Dc cX2_meet 3 (.istore_n 2) 1 4 := ⟨by decide +kernel, rfl⟩
theorem eX2_meet_4 : Dc cX2_meet 4 (.iconst 0) 1 5 := ⟨by decide +kernel, rfl⟩
theorem eX2_meet_5 : Dc cX2_meet 5 (.istore_n 3) 1 6 := ⟨by decide +kernel, rfl⟩
theorem eX2_meet_6 : Dc cX2_meet 6 (.iload_n 3) 1 7 := ⟨by decide +kernel, rfl⟩
theorem eX2_meet_7 : Dc cX2_meet 7 (.aload_n 0) 1 8 := ⟨by decide +kernel, rfl⟩
theorem eX2_meet_8 : Dc cX2_meet 8 (.getfield 8) 3 11 := ⟨by decide +kernel, rfl⟩
theorem eX2_meet_11 : Dc cX2_meet 11 (.iconst 2) 1 12 := ⟨by decide +kernel, rfl⟩
theorem eX2_meet_12 : Dc cX2_meet 12 (.iaload) 1 13 := ⟨by decide +kernel, rfl⟩
theorem eX2_meet_13 : Db cX2_meet 13 (fun o => .if_icmp .ge o) 115 16 := ⟨102, by decide +kernel, by decide, rfl⟩
theorem eX2_meet_16 : Dc cX2_meet 16 (.aload_n 0) 1 17 := ⟨by decide +kernel, rfl⟩
theorem eX2_meet_17 : Dc cX2_meet 17 (.iload_n 3) 1 18 := ⟨by decide +kernel, rfl⟩
theorem eX2_meet_18 : Dc cX2_meet 18 (.invokevirtual 219) 3 21 := ⟨by decide +kernel, rfl⟩
theorem eX2_meet_21 : Db cX2_meet 21 (fun o => .ifCond .eq o) 109 24 := ⟨88, by decide +kernel, by decide, rfl⟩
theorem eX2_meet_24 : Dc cX2_meet 24 (.aload_n 0) 1 25 := ⟨by decide +kernel, rfl⟩
theorem eX2_meet_25 : Dc cX2_meet 25 (.getfield 8) 3 28 := ⟨by decide +kernel, rfl⟩
theorem eX2_meet_28 : Dc cX2_meet 28 (.sipush 970) 3 31 := ⟨by decide +kernel, rfl⟩
theorem eX2_meet_31 : Dc cX2_meet 31 (.iload_n 3) 1 32 := ⟨by decide +kernel, rfl⟩
theorem eX2_meet_32 : Dc cX2_meet 32 (.iadd) 1 33 := ⟨by decide +kernel, rfl⟩
theorem eX2_meet_33 : Dc cX2_meet 33 (.iaload) 1 34 := ⟨by decide +kernel, rfl⟩
theorem eX2_meet_34 : Db cX2_meet 34 (fun o => .ifCond .ne o) 109 37 := ⟨75, by decide +kernel, by decide, rfl⟩
theorem eX2_meet_37 : Dc cX2_meet 37 (.iconst 1) 1 38 := ⟨by decide +kernel, rfl⟩
theorem eX2_meet_38 : Dc cX2_meet 38 (.aload_n 0) 1 39 := ⟨by decide +kernel, rfl⟩
theorem eX2_meet_39 : Dc cX2_meet 39 (.getfield 8) 3 42 := ⟨by decide +kernel, rfl⟩
theorem eX2_meet_42 : Dc cX2_meet 42 (.sipush 550) 3 45 := ⟨by decide +kernel, rfl⟩
theorem eX2_meet_45 : Dc cX2_meet 45 (.iload_n 3) 1 46 := ⟨by decide +kernel, rfl⟩
theorem eX2_meet_46 : Dc cX2_meet 46 (.iadd) 1 47 := ⟨by decide +kernel, rfl⟩
theorem eX2_meet_47 : Dc cX2_meet 47 (.iaload) 1 48 := ⟨by decide +kernel, rfl⟩
theorem eX2_meet_48 : Dc cX2_meet 48 (.ishl) 1 49 := ⟨by decide +kernel, rfl⟩
theorem eX2_meet_49 : Dc cX2_meet 49 (.iconst 1) 1 50 := ⟨by decide +kernel, rfl⟩
theorem eX2_meet_50 : Dc cX2_meet 50 (.aload_n 0) 1 51 := ⟨by decide +kernel, rfl⟩
theorem eX2_meet_51 : Dc cX2_meet 51 (.getfield 8) 3 54 := ⟨by decide +kernel, rfl⟩
theorem eX2_meet_54 : Dc cX2_meet 54 (.sipush 610) 3 57 := ⟨by decide +kernel, rfl⟩
theorem eX2_meet_57 : Dc cX2_meet 57 (.iload_n 3) 1 58 := ⟨by decide +kernel, rfl⟩
theorem eX2_meet_58 : Dc cX2_meet 58 (.iadd) 1 59 := ⟨by decide +kernel, rfl⟩
theorem eX2_meet_59 : Dc cX2_meet 59 (.iaload) 1 60 := ⟨by decide +kernel, rfl⟩
theorem eX2_meet_60 : Dc cX2_meet 60 (.ishl) 1 61 := ⟨by decide +kernel, rfl⟩
theorem eX2_meet_61 : Dc cX2_meet 61 (.ior) 1 62 := ⟨by decide +kernel, rfl⟩
theorem eX2_meet_62 : Dc cX2_meet 62 (.istore 4) 2 64 := ⟨by decide +kernel, rfl⟩
theorem eX2_meet_64 : Dc cX2_meet 64 (.iload_n 1) 1 65 := ⟨by decide +kernel, rfl⟩
theorem eX2_meet_65 : Dc cX2_meet 65 (.aload_n 0) 1 66 := ⟨by decide +kernel, rfl⟩
theorem eX2_meet_66 : Dc cX2_meet 66 (.getfield 8) 3 69 := ⟨by decide +kernel, rfl⟩
theorem eX2_meet_69 : Dc cX2_meet 69 (.sipush 670) 3 72 := ⟨by decide +kernel, rfl⟩
theorem eX2_meet_72 : Dc cX2_meet 72 (.iload_n 3) 1 73 := ⟨by decide +kernel, rfl⟩
theorem eX2_meet_73 : Dc cX2_meet 73 (.iadd) 1 74 := ⟨by decide +kernel, rfl⟩
theorem eX2_meet_74 : Dc cX2_meet 74 (.iaload) 1 75 := ⟨by decide +kernel, rfl⟩
theorem eX2_meet_75 : Db cX2_meet 75 (fun o => .ifCond .ne o) 83 78 := ⟨8, by decide +kernel, by decide, rfl⟩
theorem eX2_meet_78 : Dc cX2_meet 78 (.iload 4) 2 80 := ⟨by decide +kernel, rfl⟩
theorem eX2_meet_80 : Db cX2_meet 80 (fun o => .goto o) 84 83 := ⟨4, by decide +kernel, by decide, rfl⟩
theorem eX2_meet_83 : Dc cX2_meet 83 (.iconst 0) 1 84 := ⟨by decide +kernel, rfl⟩
theorem eX2_meet_84 : Dc cX2_meet 84 (.ior) 1 85 := ⟨by decide +kernel, rfl⟩
theorem eX2_meet_85 : Dc cX2_meet 85 (.istore_n 1) 1 86 := ⟨by decide +kernel, rfl⟩
theorem eX2_meet_86 : Dc cX2_meet 86 (.iload_n 2) 1 87 := ⟨by decide +kernel, rfl⟩
theorem eX2_meet_87 : Dc cX2_meet 87 (.aload_n 0) 1 88 := ⟨by decide +kernel, rfl⟩
theorem eX2_meet_88 : Dc cX2_meet 88 (.getfield 8) 3 91 := ⟨by decide +kernel, rfl⟩
theorem eX2_meet_91 : Dc cX2_meet 91 (.sipush 670) 3 94 := ⟨by decide +kernel, rfl⟩
theorem eX2_meet_94 : Dc cX2_meet 94 (.iload_n 3) 1 95 := ⟨by decide +kernel, rfl⟩
theorem eX2_meet_95 : Dc cX2_meet 95 (.iadd) 1 96 := ⟨by decide +kernel, rfl⟩
theorem eX2_meet_96 : Dc cX2_meet 96 (.iaload) 1 97 := ⟨by decide +kernel, rfl⟩
theorem eX2_meet_97 : Dc cX2_meet 97 (.iconst 1) 1 98 := ⟨by decide +kernel, rfl⟩
theorem eX2_meet_98 : Db cX2_meet 98 (fun o => .if_icmp .ne o) 106 101 := ⟨8, by decide +kernel, by decide, rfl⟩
theorem eX2_meet_101 : Dc cX2_meet 101 (.iload 4) 2 103 := ⟨by decide +kernel, rfl⟩
theorem eX2_meet_103 : Db cX2_meet 103 (fun o => .goto o) 107 106 := ⟨4, by decide +kernel, by decide, rfl⟩
theorem eX2_meet_106 : Dc cX2_meet 106 (.iconst 0) 1 107 := ⟨by decide +kernel, rfl⟩
theorem eX2_meet_107 : Dc cX2_meet 107 (.ior) 1 108 := ⟨by decide +kernel, rfl⟩
theorem eX2_meet_108 : Dc cX2_meet 108 (.istore_n 2) 1 109 := ⟨by decide +kernel, rfl⟩
theorem eX2_meet_109 : Dc cX2_meet 109 (.iinc 3 1) 3 112 := ⟨by decide +kernel, rfl⟩
theorem eX2_meet_112 : Db cX2_meet 112 (fun o => .goto o) 6 115 := ⟨-106, by decide +kernel, by decide, rfl⟩
theorem eX2_meet_115 : Dc cX2_meet 115 (.iload_n 1) 1 116 := ⟨by decide +kernel, rfl⟩
theorem eX2_meet_116 : Dc cX2_meet 116 (.iload_n 2) 1 117 := ⟨by decide +kernel, rfl⟩
theorem eX2_meet_117 : Dc cX2_meet 117 (.iand) 1 118 := ⟨by decide +kernel, rfl⟩
theorem eX2_meet_118 : Dc cX2_meet 118 (.ireturn) 1 119 := ⟨by decide +kernel, rfl⟩
theorem eX2_gauge_0 : Dc cX2_gauge 0 (.iload_n 1) 1 1 := ⟨by decide +kernel, rfl⟩
theorem eX2_gauge_1 : Dc cX2_gauge 1 (.iconst 0) 1 2 := ⟨by decide +kernel, rfl⟩
theorem eX2_gauge_2 : Dc cX2_gauge 2 (.iconst 1) 1 3 := ⟨by decide +kernel, rfl⟩
theorem eX2_gauge_3 : Dc cX2_gauge 3 (.aload_n 0) 1 4 := ⟨by decide +kernel, rfl⟩
theorem eX2_gauge_4 : Dc cX2_gauge 4 (.getfield 8) 3 7 := ⟨by decide +kernel, rfl⟩
theorem eX2_gauge_7 : Dc cX2_gauge 7 (.iconst 1) 1 8 := ⟨by decide +kernel, rfl⟩
theorem eX2_gauge_8 : Dc cX2_gauge 8 (.iaload) 1 9 := ⟨by decide +kernel, rfl⟩
theorem eX2_gauge_9 : Dc cX2_gauge 9 (.ishl) 1 10 := ⟨by decide +kernel, rfl⟩
theorem eX2_gauge_10 : Dc cX2_gauge 10 (.iconst 1) 1 11 := ⟨by decide +kernel, rfl⟩
theorem eX2_gauge_11 : Dc cX2_gauge 11 (.isub) 1 12 := ⟨by decide +kernel, rfl⟩
theorem eX2_gauge_12 : Dc cX2_gauge 12 (.invokestatic 58) 3 15 := ⟨by decide +kernel, rfl⟩
theorem eX2_gauge_15 : Db cX2_gauge 15 (fun o => .ifCond .ne o) 21 18 := ⟨6, by decide +kernel, by decide, rfl⟩
theorem eX2_gauge_18 : Dc cX2_gauge 18 (.bipush (-2)) 2 20 := ⟨by decide +kernel, rfl⟩
theorem eX2_gauge_20 : Dc cX2_gauge 20 (.ireturn) 1 21 := ⟨by decide +kernel, rfl⟩
theorem eX2_gauge_21 : Dc cX2_gauge 21 (.iconst 0) 1 22 := ⟨by decide +kernel, rfl⟩
theorem eX2_gauge_22 : Dc cX2_gauge 22 (.istore_n 2) 1 23 := ⟨by decide +kernel, rfl⟩
theorem eX2_gauge_23 : Dc cX2_gauge 23 (.iconst 0) 1 24 := ⟨by decide +kernel, rfl⟩
theorem eX2_gauge_24 : Dc cX2_gauge 24 (.istore_n 3) 1 25 := ⟨by decide +kernel, rfl⟩
theorem eX2_gauge_25 : Dc cX2_gauge 25 (.iconst 0) 1 26 := ⟨by decide +kernel, rfl⟩
theorem eX2_gauge_26 : Dc cX2_gauge 26 (.istore 4) 2 28 := ⟨by decide +kernel, rfl⟩
theorem eX2_gauge_28 : Dc cX2_gauge 28 (.iload 4) 2 30 := ⟨by decide +kernel, rfl⟩
theorem eX2_gauge_30 : Dc cX2_gauge 30 (.aload_n 0) 1 31 := ⟨by decide +kernel, rfl⟩
theorem eX2_gauge_31 : Dc cX2_gauge 31 (.getfield 8) 3 34 := ⟨by decide +kernel, rfl⟩
theorem eX2_gauge_34 : Dc cX2_gauge 34 (.iconst 2) 1 35 := ⟨by decide +kernel, rfl⟩
theorem eX2_gauge_35 : Dc cX2_gauge 35 (.iaload) 1 36 := ⟨by decide +kernel, rfl⟩
theorem eX2_gauge_36 : Db cX2_gauge 36 (fun o => .if_icmp .ge o) 91 39 := ⟨55, by decide +kernel, by decide, rfl⟩
theorem eX2_gauge_39 : Dc cX2_gauge 39 (.aload_n 0) 1 40 := ⟨by decide +kernel, rfl⟩
theorem eX2_gauge_40 : Dc cX2_gauge 40 (.iload 4) 2 42 := ⟨by decide +kernel, rfl⟩
theorem eX2_gauge_42 : Dc cX2_gauge 42 (.invokevirtual 219) 3 45 := ⟨by decide +kernel, rfl⟩
theorem eX2_gauge_45 : Db cX2_gauge 45 (fun o => .ifCond .eq o) 85 48 := ⟨40, by decide +kernel, by decide, rfl⟩
theorem eX2_gauge_48 : Dc cX2_gauge 48 (.aload_n 0) 1 49 := ⟨by decide +kernel, rfl⟩
theorem eX2_gauge_49 : Dc cX2_gauge 49 (.getfield 48) 3 52 := ⟨by decide +kernel, rfl⟩
theorem eX2_gauge_52 : Dc cX2_gauge 52 (.iload_n 2) 1 53 := ⟨by decide +kernel, rfl⟩
theorem eX2_gauge_53 : Dc cX2_gauge 53 (.iload 4) 2 55 := ⟨by decide +kernel, rfl⟩
theorem eX2_gauge_55 : Dc cX2_gauge 55 (.iastore) 1 56 := ⟨by decide +kernel, rfl⟩
theorem eX2_gauge_56 : Dc cX2_gauge 56 (.iload_n 3) 1 57 := ⟨by decide +kernel, rfl⟩
theorem eX2_gauge_57 : Dc cX2_gauge 57 (.iload_n 2) 1 58 := ⟨by decide +kernel, rfl⟩
theorem eX2_gauge_58 : Dc cX2_gauge 58 (.bipush 10) 2 60 := ⟨by decide +kernel, rfl⟩
theorem eX2_gauge_60 : Db cX2_gauge 60 (fun o => .if_icmp .ge o) 79 63 := ⟨19, by decide +kernel, by decide, rfl⟩
theorem eX2_gauge_63 : Dc cX2_gauge 63 (.aload_n 0) 1 64 := ⟨by decide +kernel, rfl⟩
theorem eX2_gauge_64 : Dc cX2_gauge 64 (.getfield 8) 3 67 := ⟨by decide +kernel, rfl⟩
theorem eX2_gauge_67 : Dc cX2_gauge 67 (.sipush 670) 3 70 := ⟨by decide +kernel, rfl⟩
theorem eX2_gauge_70 : Dc cX2_gauge 70 (.iload 4) 2 72 := ⟨by decide +kernel, rfl⟩
theorem eX2_gauge_72 : Dc cX2_gauge 72 (.iadd) 1 73 := ⟨by decide +kernel, rfl⟩
theorem eX2_gauge_73 : Dc cX2_gauge 73 (.iaload) 1 74 := ⟨by decide +kernel, rfl⟩
theorem eX2_gauge_74 : Dc cX2_gauge 74 (.iload_n 2) 1 75 := ⟨by decide +kernel, rfl⟩
theorem eX2_gauge_75 : Dc cX2_gauge 75 (.ishl) 1 76 := ⟨by decide +kernel, rfl⟩
theorem eX2_gauge_76 : Db cX2_gauge 76 (fun o => .goto o) 80 79 := ⟨4, by decide +kernel, by decide, rfl⟩
theorem eX2_gauge_79 : Dc cX2_gauge 79 (.iconst 0) 1 80 := ⟨by decide +kernel, rfl⟩
theorem eX2_gauge_80 : Dc cX2_gauge 80 (.ior) 1 81 := ⟨by decide +kernel, rfl⟩
theorem eX2_gauge_81 : Dc cX2_gauge 81 (.istore_n 3) 1 82 := ⟨by decide +kernel, rfl⟩
theorem eX2_gauge_82 : Dc cX2_gauge 82 (.iinc 2 1) 3 85 := ⟨by decide +kernel, rfl⟩
theorem eX2_gauge_85 : Dc cX2_gauge 85 (.iinc 4 1) 3 88 := ⟨by decide +kernel, rfl⟩
theorem eX2_gauge_88 : Db cX2_gauge 88 (fun o => .goto o) 28 91 := ⟨-60, by decide +kernel, by decide, rfl⟩
theorem eX2_gauge_91 : Dc cX2_gauge 91 (.iload_n 2) 1 92 := ⟨by decide +kernel, rfl⟩
theorem eX2_gauge_92 : Dc cX2_gauge 92 (.bipush 10) 2 94 := ⟨by decide +kernel, rfl⟩
theorem eX2_gauge_94 : Db cX2_gauge 94 (fun o => .if_icmp .le o) 100 97 := ⟨6, by decide +kernel, by decide, rfl⟩
theorem eX2_gauge_97 : Dc cX2_gauge 97 (.bipush (-9)) 2 99 := ⟨by decide +kernel, rfl⟩
theorem eX2_gauge_99 : Dc cX2_gauge 99 (.ireturn) 1 100 := ⟨by decide +kernel, rfl⟩
theorem eX2_gauge_100 : Dc cX2_gauge 100 (.bipush (-5)) 2 102 := ⟨by decide +kernel, rfl⟩
theorem eX2_gauge_102 : Dc cX2_gauge 102 (.istore 4) 2 104 := ⟨by decide +kernel, rfl⟩
theorem eX2_gauge_104 : Dc cX2_gauge 104 (.iconst 0) 1 105 := ⟨by decide +kernel, rfl⟩
theorem eX2_gauge_105 : Dc cX2_gauge 105 (.istore 5) 2 107 := ⟨by decide +kernel, rfl⟩
theorem eX2_gauge_107 : Dc cX2_gauge 107 (.iload 5) 2 109 := ⟨by decide +kernel, rfl⟩
theorem eX2_gauge_109 : Dc cX2_gauge 109 (.iconst 1) 1 110 := ⟨by decide +kernel, rfl⟩
theorem eX2_gauge_110 : Dc cX2_gauge 110 (.iload_n 2) 1 111 := ⟨by decide +kernel, rfl⟩
theorem eX2_gauge_111 : Dc cX2_gauge 111 (.ishl) 1 112 := ⟨by decide +kernel, rfl⟩
theorem eX2_gauge_112 : Db cX2_gauge 112 (fun o => .if_icmp .ge o) 192 115 := ⟨80, by decide +kernel, by decide, rfl⟩
theorem eX2_gauge_115 : Dc cX2_gauge 115 (.iload_n 3) 1 116 := ⟨by decide +kernel, rfl⟩
theorem eX2_gauge_116 : Dc cX2_gauge 116 (.iload 5) 2 118 := ⟨by decide +kernel, rfl⟩
theorem eX2_gauge_118 : Dc cX2_gauge 118 (.ixor) 1 119 := ⟨by decide +kernel, rfl⟩
theorem eX2_gauge_119 : Dc cX2_gauge 119 (.istore 6) 2 121 := ⟨by decide +kernel, rfl⟩
theorem eX2_gauge_121 : Dc cX2_gauge 121 (.aload_n 0) 1 122 := ⟨by decide +kernel, rfl⟩
theorem eX2_gauge_122 : Dc cX2_gauge 122 (.iload_n 1) 1 123 := ⟨by decide +kernel, rfl⟩
theorem eX2_gauge_123 : Dc cX2_gauge 123 (.iload 6) 2 125 := ⟨by decide +kernel, rfl⟩
theorem eX2_gauge_125 : Dc cX2_gauge 125 (.iload_n 2) 1 126 := ⟨by decide +kernel, rfl⟩
theorem eX2_gauge_126 : Dc cX2_gauge 126 (.invokevirtual 272) 3 129 := ⟨by decide +kernel, rfl⟩
theorem eX2_gauge_129 : Db cX2_gauge 129 (fun o => .ifCond .ne o) 145 132 := ⟨16, by decide +kernel, by decide, rfl⟩
theorem eX2_gauge_132 : Dc cX2_gauge 132 (.aload_n 0) 1 133 := ⟨by decide +kernel, rfl⟩
theorem eX2_gauge_133 : Dc cX2_gauge 133 (.iload_n 1) 1 134 := ⟨by decide +kernel, rfl⟩
theorem eX2_gauge_134 : Dc cX2_gauge 134 (.iload 6) 2 136 := ⟨by decide +kernel, rfl⟩
theorem eX2_gauge_136 : Dc cX2_gauge 136 (.iconst (-1)) 1 137 := ⟨by decide +kernel, rfl⟩
theorem eX2_gauge_137 : Dc cX2_gauge 137 (.ixor) 1 138 := ⟨by decide +kernel, rfl⟩
theorem eX2_gauge_138 : Dc cX2_gauge 138 (.iload_n 2) 1 139 := ⟨by decide +kernel, rfl⟩
theorem eX2_gauge_139 : Dc cX2_gauge 139 (.invokevirtual 272) 3 142 := ⟨by decide +kernel, rfl⟩
theorem eX2_gauge_142 : Db cX2_gauge 142 (fun o => .ifCond .eq o) 149 145 := ⟨7, by decide +kernel, by decide, rfl⟩
theorem eX2_gauge_145 : Dc cX2_gauge 145 (.iconst 1) 1 146 := ⟨by decide +kernel, rfl⟩
theorem eX2_gauge_146 : Db cX2_gauge 146 (fun o => .goto o) 150 149 := ⟨4, by decide +kernel, by decide, rfl⟩
theorem eX2_gauge_149 : Dc cX2_gauge 149 (.iconst 0) 1 150 := ⟨by decide +kernel, rfl⟩
theorem eX2_gauge_150 : Dc cX2_gauge 150 (.istore 7) 2 152 := ⟨by decide +kernel, rfl⟩
theorem eX2_gauge_152 : Dc cX2_gauge 152 (.iload 7) 2 154 := ⟨by decide +kernel, rfl⟩
theorem eX2_gauge_154 : Db cX2_gauge 154 (fun o => .ifCond .eq o) 182 157 := ⟨28, by decide +kernel, by decide, rfl⟩
theorem eX2_gauge_157 : Dc cX2_gauge 157 (.iload 4) 2 159 := ⟨by decide +kernel, rfl⟩
theorem eX2_gauge_159 : Dc cX2_gauge 159 (.bipush (-5)) 2 161 := ⟨by decide +kernel, rfl⟩
theorem eX2_gauge_161 : Db cX2_gauge 161 (fun o => .if_icmp .eq o) 177 164 := ⟨16, by decide +kernel, by decide, rfl⟩
theorem eX2_gauge_164 : Dc cX2_gauge 164 (.iload 5) 2 166 := ⟨by decide +kernel, rfl⟩
theorem eX2_gauge_166 : Dc cX2_gauge 166 (.invokestatic 269) 3 169 := ⟨by decide +kernel, rfl⟩
theorem eX2_gauge_169 : Dc cX2_gauge 169 (.iload 4) 2 171 := ⟨by decide +kernel, rfl⟩
theorem eX2_gauge_171 : Dc cX2_gauge 171 (.invokestatic 269) 3 174 := ⟨by decide +kernel, rfl⟩
theorem eX2_gauge_174 : Db cX2_gauge 174 (fun o => .if_icmp .ge o) 182 177 := ⟨8, by decide +kernel, by decide, rfl⟩
theorem eX2_gauge_177 : Dc cX2_gauge 177 (.iload 5) 2 179 := ⟨by decide +kernel, rfl⟩
theorem eX2_gauge_179 : Db cX2_gauge 179 (fun o => .goto o) 184 182 := ⟨5, by decide +kernel, by decide, rfl⟩
theorem eX2_gauge_182 : Dc cX2_gauge 182 (.iload 4) 2 184 := ⟨by decide +kernel, rfl⟩
theorem eX2_gauge_184 : Dc cX2_gauge 184 (.istore 4) 2 186 := ⟨by decide +kernel, rfl⟩
theorem eX2_gauge_186 : Dc cX2_gauge 186 (.iinc 5 1) 3 189 := ⟨by decide +kernel, rfl⟩
theorem eX2_gauge_189 : Db cX2_gauge 189 (fun o => .goto o) 107 192 := ⟨-82, by decide +kernel, by decide, rfl⟩
theorem eX2_gauge_192 : Dc cX2_gauge 192 (.iload 4) 2 194 := ⟨by decide +kernel, rfl⟩
theorem eX2_gauge_194 : Dc cX2_gauge 194 (.ireturn) 1 195 := ⟨by decide +kernel, rfl⟩
theorem eX2_areJoined_0 : Dc cX2_areJoined 0 (.iload_n 1) 1 1 := ⟨by decide +kernel, rfl⟩
theorem eX2_areJoined_1 : Dc cX2_areJoined 1 (.invokestatic 269) 3 4 := ⟨by decide +kernel, rfl⟩
theorem eX2_areJoined_4 : Dc cX2_areJoined 4 (.iconst 2) 1 5 := ⟨by decide +kernel, rfl⟩
theorem eX2_areJoined_5 : Db cX2_areJoined 5 (fun o => .if_icmp .ge o) 10 8 := ⟨5, by decide +kernel, by decide, rfl⟩
theorem eX2_areJoined_8 : Dc cX2_areJoined 8 (.iconst 1) 1 9 := ⟨by decide +kernel, rfl⟩
theorem eX2_areJoined_9 : Dc cX2_areJoined 9 (.ireturn) 1 10 := ⟨by decide +kernel, rfl⟩
theorem eX2_areJoined_10 : Dc cX2_areJoined 10 (.iload_n 1) 1 11 := ⟨by decide +kernel, rfl⟩
theorem eX2_areJoined_11 : Dc cX2_areJoined 11 (.iload_n 1) 1 12 := ⟨by decide +kernel, rfl⟩
theorem eX2_areJoined_12 : Dc cX2_areJoined 12 (.ineg) 1 13 := ⟨by decide +kernel, rfl⟩
theorem eX2_areJoined_13 : Dc cX2_areJoined 13 (.iand) 1 14 := ⟨by decide +kernel, rfl⟩
theorem eX2_areJoined_14 : Dc cX2_areJoined 14 (.istore 4) 2 16 := ⟨by decide +kernel, rfl⟩
theorem eX2_areJoined_16 : Dc cX2_areJoined 16 (.iconst 0) 1 17 := ⟨by decide +kernel, rfl⟩
theorem eX2_areJoined_17 : Dc cX2_areJoined 17 (.istore 5) 2 19 := ⟨by decide +kernel, rfl⟩
theorem eX2_areJoined_19 : Dc cX2_areJoined 19 (.iload 5) 2 21 := ⟨by decide +kernel, rfl⟩
theorem eX2_areJoined_21 : Dc cX2_areJoined 21 (.bipush 6) 2 23 := ⟨by decide +kernel, rfl⟩
theorem eX2_areJoined_23 : Db cX2_areJoined 23 (fun o => .if_icmp .ge o) 115 26 := ⟨92, by decide +kernel, by decide, rfl⟩
theorem eX2_areJoined_26 : Dc cX2_areJoined 26 (.iconst 0) 1 27 := ⟨by decide +kernel, rfl⟩
theorem eX2_areJoined_27 : Dc cX2_areJoined 27 (.istore 6) 2 29 := ⟨by decide +kernel, rfl⟩
theorem eX2_areJoined_29 : Dc cX2_areJoined 29 (.iload 6) 2 31 := ⟨by decide +kernel, rfl⟩
theorem eX2_areJoined_31 : Dc cX2_areJoined 31 (.iload_n 3) 1 32 := ⟨by decide +kernel, rfl⟩
theorem eX2_areJoined_32 : Db cX2_areJoined 32 (fun o => .if_icmp .ge o) 109 35 := ⟨77, by decide +kernel, by decide, rfl⟩
theorem eX2_areJoined_35 : Dc cX2_areJoined 35 (.iconst 1) 1 36 := ⟨by decide +kernel, rfl⟩
theorem eX2_areJoined_36 : Dc cX2_areJoined 36 (.aload_n 0) 1 37 := ⟨by decide +kernel, rfl⟩
theorem eX2_areJoined_37 : Dc cX2_areJoined 37 (.getfield 8) 3 40 := ⟨by decide +kernel, rfl⟩
theorem eX2_areJoined_40 : Dc cX2_areJoined 40 (.sipush 550) 3 43 := ⟨by decide +kernel, rfl⟩
theorem eX2_areJoined_43 : Dc cX2_areJoined 43 (.aload_n 0) 1 44 := ⟨by decide +kernel, rfl⟩
theorem eX2_areJoined_44 : Dc cX2_areJoined 44 (.getfield 48) 3 47 := ⟨by decide +kernel, rfl⟩
theorem eX2_areJoined_47 : Dc cX2_areJoined 47 (.iload 6) 2 49 := ⟨by decide +kernel, rfl⟩
theorem eX2_areJoined_49 : Dc cX2_areJoined 49 (.iaload) 1 50 := ⟨by decide +kernel, rfl⟩
theorem eX2_areJoined_50 : Dc cX2_areJoined 50 (.iadd) 1 51 := ⟨by decide +kernel, rfl⟩
theorem eX2_areJoined_51 : Dc cX2_areJoined 51 (.iaload) 1 52 := ⟨by decide +kernel, rfl⟩
theorem eX2_areJoined_52 : Dc cX2_areJoined 52 (.ishl) 1 53 := ⟨by decide +kernel, rfl⟩
theorem eX2_areJoined_53 : Dc cX2_areJoined 53 (.iconst 1) 1 54 := ⟨by decide +kernel, rfl⟩
theorem eX2_areJoined_54 : Dc cX2_areJoined 54 (.aload_n 0) 1 55 := ⟨by decide +kernel, rfl⟩
theorem eX2_areJoined_55 : Dc cX2_areJoined 55 (.getfield 8) 3 58 := ⟨by decide +kernel, rfl⟩
theorem eX2_areJoined_58 : Dc cX2_areJoined 58 (.sipush 610) 3 61 := ⟨by decide +kernel, rfl⟩
theorem eX2_areJoined_61 : Dc cX2_areJoined 61 (.aload_n 0) 1 62 := ⟨by decide +kernel, rfl⟩
theorem eX2_areJoined_62 : Dc cX2_areJoined 62 (.getfield 48) 3 65 := ⟨by decide +kernel, rfl⟩
theorem eX2_areJoined_65 : Dc cX2_areJoined 65 (.iload 6) 2 67 := ⟨by decide +kernel, rfl⟩
theorem eX2_areJoined_67 : Dc cX2_areJoined 67 (.iaload) 1 68 := ⟨by decide +kernel, rfl⟩
theorem eX2_areJoined_68 : Dc cX2_areJoined 68 (.iadd) 1 69 := ⟨by decide +kernel, rfl⟩
theorem eX2_areJoined_69 : Dc cX2_areJoined 69 (.iaload) 1 70 := ⟨by decide +kernel, rfl⟩
theorem eX2_areJoined_70 : Dc cX2_areJoined 70 (.ishl) 1 71 := ⟨by decide +kernel, rfl⟩
theorem eX2_areJoined_71 : Dc cX2_areJoined 71 (.ior) 1 72 := ⟨by decide +kernel, rfl⟩
theorem eX2_areJoined_72 : Dc cX2_areJoined 72 (.istore 7) 2 74 := ⟨by decide +kernel, rfl⟩
theorem eX2_areJoined_74 : Dc cX2_areJoined 74 (.iload 4) 2 76 := ⟨by decide +kernel, rfl⟩
theorem eX2_areJoined_76 : Dc cX2_areJoined 76 (.iload_n 2) 1 77 := ⟨by decide +kernel, rfl⟩
theorem eX2_areJoined_77 : Dc cX2_areJoined 77 (.iload 6) 2 79 := ⟨by decide +kernel, rfl⟩
theorem eX2_areJoined_79 : Dc cX2_areJoined 79 (.ishr) 1 80 := ⟨by decide +kernel, rfl⟩
theorem eX2_areJoined_80 : Dc cX2_areJoined 80 (.iconst 1) 1 81 := ⟨by decide +kernel, rfl⟩
theorem eX2_areJoined_81 : Dc cX2_areJoined 81 (.iand) 1 82 := ⟨by decide +kernel, rfl⟩
theorem eX2_areJoined_82 : Dc cX2_areJoined 82 (.iconst 1) 1 83 := ⟨by decide +kernel, rfl⟩
theorem eX2_areJoined_83 : Db cX2_areJoined 83 (fun o => .if_icmp .ne o) 99 86 := ⟨16, by decide +kernel, by decide, rfl⟩
theorem eX2_areJoined_86 : Dc cX2_areJoined 86 (.iload 4) 2 88 := ⟨by decide +kernel, rfl⟩
theorem eX2_areJoined_88 : Dc cX2_areJoined 88 (.iload 7) 2 90 := ⟨by decide +kernel, rfl⟩
theorem eX2_areJoined_90 : Dc cX2_areJoined 90 (.iand) 1 91 := ⟨by decide +kernel, rfl⟩
theorem eX2_areJoined_91 : Db cX2_areJoined 91 (fun o => .ifCond .eq o) 99 94 := ⟨8, by decide +kernel, by decide, rfl⟩
theorem eX2_areJoined_94 : Dc cX2_areJoined 94 (.iload 7) 2 96 := ⟨by decide +kernel, rfl⟩
theorem eX2_areJoined_96 : Db cX2_areJoined 96 (fun o => .goto o) 100 99 := ⟨4, by decide +kernel, by decide, rfl⟩
theorem eX2_areJoined_99 : Dc cX2_areJoined 99 (.iconst 0) 1 100 := ⟨by decide +kernel, rfl⟩
theorem eX2_areJoined_100 : Dc cX2_areJoined 100 (.ior) 1 101 := ⟨by decide +kernel, rfl⟩
theorem eX2_areJoined_101 : Dc cX2_areJoined 101 (.istore 4) 2 103 := ⟨by decide +kernel, rfl⟩
theorem eX2_areJoined_103 : Dc cX2_areJoined 103 (.iinc 6 1) 3 106 := ⟨by decide +kernel, rfl⟩
theorem eX2_areJoined_106 : Db cX2_areJoined 106 (fun o => .goto o) 29 109 := ⟨-77, by decide +kernel, by decide, rfl⟩
theorem eX2_areJoined_109 : Dc cX2_areJoined 109 (.iinc 5 1) 3 112 := ⟨by decide +kernel, rfl⟩
theorem eX2_areJoined_112 : Db cX2_areJoined 112 (fun o => .goto o) 19 115 := ⟨-93, by decide +kernel, by decide, rfl⟩
theorem eX2_areJoined_115 : Dc cX2_areJoined 115 (.iload_n 1) 1 116 := ⟨by decide +kernel, rfl⟩
theorem eX2_areJoined_116 : Dc cX2_areJoined 116 (.iload 4) 2 118 := ⟨by decide +kernel, rfl⟩
theorem eX2_areJoined_118 : Dc cX2_areJoined 118 (.iconst (-1)) 1 119 := ⟨by decide +kernel, rfl⟩
theorem eX2_areJoined_119 : Dc cX2_areJoined 119 (.ixor) 1 120 := ⟨by decide +kernel, rfl⟩
theorem eX2_areJoined_120 : Dc cX2_areJoined 120 (.iand) 1 121 := ⟨by decide +kernel, rfl⟩
theorem eX2_areJoined_121 : Db cX2_areJoined 121 (fun o => .ifCond .ne o) 128 124 := ⟨7, by decide +kernel, by decide, rfl⟩
theorem eX2_areJoined_124 : Dc cX2_areJoined 124 (.iconst 1) 1 125 := ⟨by decide +kernel, rfl⟩
theorem eX2_areJoined_125 : Db cX2_areJoined 125 (fun o => .goto o) 129 128 := ⟨4, by decide +kernel, by decide, rfl⟩
theorem eX2_areJoined_128 : Dc cX2_areJoined 128 (.iconst 0) 1 129 := ⟨by decide +kernel, rfl⟩
theorem eX2_areJoined_129 : Dc cX2_areJoined 129 (.ireturn) 1 130 := ⟨by decide +kernel, rfl⟩
theorem eX2_many_0 : Dc cX2_many 0 (.iconst 0) 1 1 := ⟨by decide +kernel, rfl⟩
theorem eX2_many_1 : Dc cX2_many 1 (.istore_n 1) 1 2 := ⟨by decide +kernel, rfl⟩
theorem eX2_many_2 : Dc cX2_many 2 (.iconst 0) 1 3 := ⟨by decide +kernel, rfl⟩
theorem eX2_many_3 : Dc cX2_many 3 (.istore_n 2) 1 4 := ⟨by decide +kernel, rfl⟩
theorem eX2_many_4 : Dc cX2_many 4 (.iload_n 2) 1 5 := ⟨by decide +kernel, rfl⟩
theorem eX2_many_5 : Dc cX2_many 5 (.bipush 30) 2 7 := ⟨by decide +kernel, rfl⟩
theorem eX2_many_7 : Db cX2_many 7 (fun o => .if_icmp .ge o) 24 10 := ⟨17, by decide +kernel, by decide, rfl⟩
theorem eX2_many_10 : Dc cX2_many 10 (.iload_n 1) 1 11 := ⟨by decide +kernel, rfl⟩
theorem eX2_many_11 : Dc cX2_many 11 (.iload_n 0) 1 12 := ⟨by decide +kernel, rfl⟩
theorem eX2_many_12 : Dc cX2_many 12 (.iload_n 2) 1 13 := ⟨by decide +kernel, rfl⟩
theorem eX2_many_13 : Dc cX2_many 13 (.ishr) 1 14 := ⟨by decide +kernel, rfl⟩
theorem eX2_many_14 : Dc cX2_many 14 (.iconst 1) 1 15 := ⟨by decide +kernel, rfl⟩
theorem eX2_many_15 : Dc cX2_many 15 (.iand) 1 16 := ⟨by decide +kernel, rfl⟩
theorem eX2_many_16 : Dc cX2_many 16 (.iadd) 1 17 := ⟨by decide +kernel, rfl⟩
theorem eX2_many_17 : Dc cX2_many 17 (.istore_n 1) 1 18 := ⟨by decide +kernel, rfl⟩
theorem eX2_many_18 : Dc cX2_many 18 (.iinc 2 1) 3 21 := ⟨by decide +kernel, rfl⟩
theorem eX2_many_21 : Db cX2_many 21 (fun o => .goto o) 4 24 := ⟨-17, by decide +kernel, by decide, rfl⟩
theorem eX2_many_24 : Dc cX2_many 24 (.iload_n 1) 1 25 := ⟨by decide +kernel, rfl⟩
theorem eX2_many_25 : Dc cX2_many 25 (.ireturn) 1 26 := ⟨by decide +kernel, rfl⟩
