set_option maxRecDepth 100000
theorem eX2_init_0 : Dc cX2_init 0 (.aload_n 0) 1 1 := ⟨by decide +kernel, rfl⟩
theorem eX2_init_1 : Dc cX2_init 1 (.invokespecial 1) 3 4 := ⟨by decide +kernel, rfl⟩
theorem eX2_init_4 : Dc cX2_init 4 (.aload_n 0) 1 5 := ⟨by decide +kernel, rfl⟩
theorem eX2_init_5 : Dc cX2_init 5 (.ldc 7) 2 7 := ⟨by decide +kernel, rfl⟩
theorem eX2_init_7 : Dc cX2_init 7 (.newarray .int) 2 9 := ⟨by decide +kernel, rfl⟩
theorem eX2_init_9 : Dc cX2_init 9 (.putfield 8) 3 12 := ⟨by decide +kernel, rfl⟩
theorem eX2_init_12 : Dc cX2_init 12 (.aload_n 0) 1 13 := ⟨by decide +kernel, rfl⟩
theorem eX2_init_13 : Dc cX2_init 13 (.ldc 7) 2 15 := ⟨by decide +kernel, rfl⟩
theorem eX2_init_15 : Dc cX2_init 15 (.newarray .int) 2 17 := ⟨by decide +kernel, rfl⟩
theorem eX2_init_17 : Dc cX2_init 17 (.putfield 14) 3 20 := ⟨by decide +kernel, rfl⟩
theorem eX2_init_20 : Dc cX2_init 20 (.aload_n 0) 1 21 := ⟨by decide +kernel, rfl⟩
theorem eX2_init_21 : Dc cX2_init 21 (.bipush 6) 2 23 := ⟨by decide +kernel, rfl⟩
theorem eX2_init_23 : Dc cX2_init 23 (.newarray .int) 2 25 := ⟨by decide +kernel, rfl⟩
theorem eX2_init_25 : Dc cX2_init 25 (.putfield 17) 3 28 := ⟨by decide +kernel, rfl⟩
theorem eX2_init_28 : Dc cX2_init 28 (.aload_n 0) 1 29 := ⟨by decide +kernel, rfl⟩
theorem eX2_init_29 : Dc cX2_init 29 (.bipush 80) 2 31 := ⟨by decide +kernel, rfl⟩
theorem eX2_init_31 : Dc cX2_init 31 (.newarray .int) 2 33 := ⟨by decide +kernel, rfl⟩
theorem eX2_init_33 : Dc cX2_init 33 (.putfield 20) 3 36 := ⟨by decide +kernel, rfl⟩
theorem eX2_init_36 : Dc cX2_init 36 (.aload_n 0) 1 37 := ⟨by decide +kernel, rfl⟩
theorem eX2_init_37 : Dc cX2_init 37 (.bipush 80) 2 39 := ⟨by decide +kernel, rfl⟩
theorem eX2_init_39 : Dc cX2_init 39 (.newarray .int) 2 41 := ⟨by decide +kernel, rfl⟩
theorem eX2_init_41 : Dc cX2_init 41 (.putfield 23) 3 44 := ⟨by decide +kernel, rfl⟩
theorem eX2_init_44 : Dc cX2_init 44 (.aload_n 0) 1 45 := ⟨by decide +kernel, rfl⟩
theorem eX2_init_45 : Dc cX2_init 45 (.bipush 7) 2 47 := ⟨by decide +kernel, rfl⟩
theorem eX2_init_47 : Dc cX2_init 47 (.newarray .int) 2 49 := ⟨by decide +kernel, rfl⟩
theorem eX2_init_49 : Dc cX2_init 49 (.putfield 26) 3 52 := ⟨by decide +kernel, rfl⟩
theorem eX2_init_52 : Dc cX2_init 52 (.aload_n 0) 1 53 := ⟨by decide +kernel, rfl⟩
theorem eX2_init_53 : Dc cX2_init 53 (.bipush 7) 2 55 := ⟨by decide +kernel, rfl⟩
theorem eX2_init_55 : Dc cX2_init 55 (.newarray .int) 2 57 := ⟨by decide +kernel, rfl⟩
theorem eX2_init_57 : Dc cX2_init 57 (.putfield 29) 3 60 := ⟨by decide +kernel, rfl⟩
theorem eX2_init_60 : Dc cX2_init 60 (.aload_n 0) 1 61 := ⟨by decide +kernel, rfl⟩
theorem eX2_init_61 : Dc cX2_init 61 (.sipush 400) 3 64 := ⟨by decide +kernel, rfl⟩
theorem eX2_init_64 : Dc cX2_init 64 (.newarray .long) 2 66 := ⟨by decide +kernel, rfl⟩
theorem eX2_init_66 : Dc cX2_init 66 (.putfield 32) 3 69 := ⟨by decide +kernel, rfl⟩
theorem eX2_init_69 : Dc cX2_init 69 (.aload_n 0) 1 70 := ⟨by decide +kernel, rfl⟩
theorem eX2_init_70 : Dc cX2_init 70 (.sipush 400) 3 73 := ⟨by decide +kernel, rfl⟩
theorem eX2_init_73 : Dc cX2_init 73 (.newarray .long) 2 75 := ⟨by decide +kernel, rfl⟩
theorem eX2_init_75 : Dc cX2_init 75 (.putfield 36) 3 78 := ⟨by decide +kernel, rfl⟩
theorem eX2_init_78 : Dc cX2_init 78 (.aload_n 0) 1 79 := ⟨by decide +kernel, rfl⟩
theorem eX2_init_79 : Dc cX2_init 79 (.sipush 400) 3 82 := ⟨by decide +kernel, rfl⟩
theorem eX2_init_82 : Dc cX2_init 82 (.newarray .long) 2 84 := ⟨by decide +kernel, rfl⟩
theorem eX2_init_84 : Dc cX2_init 84 (.putfield 39) 3 87 := ⟨by decide +kernel, rfl⟩
theorem eX2_init_87 : Dc cX2_init 87 (.aload_n 0) 1 88 := ⟨by decide +kernel, rfl⟩
theorem eX2_init_88 : Dc cX2_init 88 (.bipush 20) 2 90 := ⟨by decide +kernel, rfl⟩
theorem eX2_init_90 : Dc cX2_init 90 (.newarray .long) 2 92 := ⟨by decide +kernel, rfl⟩
theorem eX2_init_92 : Dc cX2_init 92 (.putfield 42) 3 95 := ⟨by decide +kernel, rfl⟩
theorem eX2_init_95 : Dc cX2_init 95 (.aload_n 0) 1 96 := ⟨by decide +kernel, rfl⟩
theorem eX2_init_96 : Dc cX2_init 96 (.bipush 20) 2 98 := ⟨by decide +kernel, rfl⟩
theorem eX2_init_98 : Dc cX2_init 98 (.newarray .long) 2 100 := ⟨by decide +kernel, rfl⟩
theorem eX2_init_100 : Dc cX2_init 100 (.putfield 45) 3 103 := ⟨by decide +kernel, rfl⟩
theorem eX2_init_103 : Dc cX2_init 103 (.aload_n 0) 1 104 := ⟨by decide +kernel, rfl⟩
theorem eX2_init_104 : Dc cX2_init 104 (.bipush 60) 2 106 := ⟨by decide +kernel, rfl⟩
theorem eX2_init_106 : Dc cX2_init 106 (.newarray .int) 2 108 := ⟨by decide +kernel, rfl⟩
theorem eX2_init_108 : Dc cX2_init 108 (.putfield 48) 3 111 := ⟨by decide +kernel, rfl⟩
theorem eX2_init_111 : Dc cX2_init 111 (.aload_n 0) 1 112 := ⟨by decide +kernel, rfl⟩
theorem eX2_init_112 : Dc cX2_init 112 (.bipush 40) 2 114 := ⟨by decide +kernel, rfl⟩
theorem eX2_init_114 : Dc cX2_init 114 (.newarray .int) 2 116 := ⟨by decide +kernel, rfl⟩
theorem eX2_init_116 : Dc cX2_init 116 (.putfield 51) 3 119 := ⟨by decide +kernel, rfl⟩
theorem eX2_init_119 : Dc cX2_init 119 (.iconst 0) 1 120 := ⟨by decide +kernel, rfl⟩
theorem eX2_init_120 : Dc cX2_init 120 (.istore_n 1) 1 121 := ⟨by decide +kernel, rfl⟩
theorem eX2_init_121 : Dc cX2_init 121 (.iload_n 1) 1 122 := ⟨by decide +kernel, rfl⟩
theorem eX2_init_122 : Dc cX2_init 122 (.iconst 4) 1 123 := ⟨by decide +kernel, rfl⟩
theorem eX2_init_123 : Db cX2_init 123 (fun o => .if_icmp .ge o) 143 126 := ⟨20, by decide +kernel, by decide, rfl⟩
theorem eX2_init_126 : Dc cX2_init 126 (.aload_n 0) 1 127 := ⟨by decide +kernel, rfl⟩
theorem eX2_init_127 : Dc cX2_init 127 (.getfield 8) 3 130 := ⟨by decide +kernel, rfl⟩
theorem eX2_init_130 : Dc cX2_init 130 (.sipush 200) 3 133 := ⟨by decide +kernel, rfl⟩
theorem eX2_init_133 : Dc cX2_init 133 (.iload_n 1) 1 134 := ⟨by decide +kernel, rfl⟩
theorem eX2_init_134 : Dc cX2_init 134 (.iadd) 1 135 := ⟨by decide +kernel, rfl⟩
theorem eX2_init_135 : Dc cX2_init 135 (.iconst (-1)) 1 136 := ⟨by decide +kernel, rfl⟩
theorem eX2_init_136 : Dc cX2_init 136 (.iastore) 1 137 := ⟨by decide +kernel, rfl⟩
theorem eX2_init_137 : Dc cX2_init 137 (.iinc 1 1) 3 140 := ⟨by decide +kernel, rfl⟩
theorem eX2_init_140 : Db cX2_init 140 (fun o => .goto o) 121 143 := ⟨-19, by decide +kernel, by decide, rfl⟩
theorem eX2_init_143 : Dc cX2_init 143 (.return_) 1 144 := ⟨by decide +kernel, rfl⟩
theorem eX2_land_0 : Dc cX2_land 0 (.iload_n 1) 1 1 := ⟨by decide +kernel, rfl⟩
theorem eX2_land_1 : Dc cX2_land 1 (.invokestatic 66) 3 4 := ⟨by decide +kernel, rfl⟩
theorem eX2_land_4 : Db cX2_land 4 (fun o => .ifCond .eq o) 16 7 := ⟨12, by decide +kernel, by decide, rfl⟩
theorem eX2_land_7 : Dc cX2_land 7 (.iload_n 2) 1 8 := ⟨by decide +kernel, rfl⟩
theorem eX2_land_8 : Dc cX2_land 8 (.iconst 0) 1 9 := ⟨by decide +kernel, rfl⟩
theorem eX2_land_9 : Dc cX2_land 9 (.iconst 1) 1 10 := ⟨by decide +kernel, rfl⟩
theorem eX2_land_10 : Dc cX2_land 10 (.invokestatic 58) 3 13 := ⟨by decide +kernel, rfl⟩
theorem eX2_land_13 : Db cX2_land 13 (fun o => .ifCond .ne o) 18 16 := ⟨5, by decide +kernel, by decide, rfl⟩
theorem eX2_land_16 : Dc cX2_land 16 (.iconst (-1)) 1 17 := ⟨by decide +kernel, rfl⟩
theorem eX2_land_17 : Dc cX2_land 17 (.ireturn) 1 18 := ⟨by decide +kernel, rfl⟩
theorem eX2_land_18 : Dc cX2_land 18 (.iload_n 3) 1 19 := ⟨by decide +kernel, rfl⟩
theorem eX2_land_19 : Dc cX2_land 19 (.iconst 0) 1 20 := ⟨by decide +kernel, rfl⟩
theorem eX2_land_20 : Dc cX2_land 20 (.iload_n 2) 1 21 := ⟨by decide +kernel, rfl⟩
theorem eX2_land_21 : Db cX2_land 21 (fun o => .ifCond .ne o) 29 24 := ⟨8, by decide +kernel, by decide, rfl⟩
theorem eX2_land_24 : Dc cX2_land 24 (.bipush 99) 2 26 := ⟨by decide +kernel, rfl⟩
theorem eX2_land_26 : Db cX2_land 26 (fun o => .goto o) 30 29 := ⟨4, by decide +kernel, by decide, rfl⟩
theorem eX2_land_29 : Dc cX2_land 29 (.iconst 2) 1 30 := ⟨by decide +kernel, rfl⟩
theorem eX2_land_30 : Dc cX2_land 30 (.invokestatic 58) 3 33 := ⟨by decide +kernel, rfl⟩
theorem eX2_land_33 : Db cX2_land 33 (fun o => .ifCond .ne o) 39 36 := ⟨6, by decide +kernel, by decide, rfl⟩
theorem eX2_land_36 : Dc cX2_land 36 (.bipush (-2)) 2 38 := ⟨by decide +kernel, rfl⟩
theorem eX2_land_38 : Dc cX2_land 38 (.ireturn) 1 39 := ⟨by decide +kernel, rfl⟩
theorem eX2_land_39 : Dc cX2_land 39 (.iload_n 2) 1 40 := ⟨by decide +kernel, rfl⟩
theorem eX2_land_40 : Db cX2_land 40 (fun o => .ifCond .ne o) 50 43 := ⟨10, by decide +kernel, by decide, rfl⟩
theorem eX2_land_43 : Dc cX2_land 43 (.bipush 20) 2 45 := ⟨by decide +kernel, rfl⟩
theorem eX2_land_45 : Dc cX2_land 45 (.iload_n 1) 1 46 := ⟨by decide +kernel, rfl⟩
theorem eX2_land_46 : Dc cX2_land 46 (.iadd) 1 47 := ⟨by decide +kernel, rfl⟩
theorem eX2_land_47 : Db cX2_land 47 (fun o => .goto o) 54 50 := ⟨7, by decide +kernel, by decide, rfl⟩
theorem eX2_land_50 : Dc cX2_land 50 (.bipush 100) 2 52 := ⟨by decide +kernel, rfl⟩
theorem eX2_land_52 : Dc cX2_land 52 (.iload_n 1) 1 53 := ⟨by decide +kernel, rfl⟩
theorem eX2_land_53 : Dc cX2_land 53 (.iadd) 1 54 := ⟨by decide +kernel, rfl⟩
theorem eX2_land_54 : Dc cX2_land 54 (.istore 4) 2 56 := ⟨by decide +kernel, rfl⟩
theorem eX2_land_56 : Dc cX2_land 56 (.aload_n 0) 1 57 := ⟨by decide +kernel, rfl⟩
theorem eX2_land_57 : Dc cX2_land 57 (.getfield 8) 3 60 := ⟨by decide +kernel, rfl⟩
theorem eX2_land_60 : Dc cX2_land 60 (.iload 4) 2 62 := ⟨by decide +kernel, rfl⟩
theorem eX2_land_62 : Dc cX2_land 62 (.iaload) 1 63 := ⟨by decide +kernel, rfl⟩
theorem eX2_land_63 : Dc cX2_land 63 (.istore 5) 2 65 := ⟨by decide +kernel, rfl⟩
theorem eX2_land_65 : Dc cX2_land 65 (.aload_n 0) 1 66 := ⟨by decide +kernel, rfl⟩
theorem eX2_land_66 : Dc cX2_land 66 (.getfield 8) 3 69 := ⟨by decide +kernel, rfl⟩
theorem eX2_land_69 : Dc cX2_land 69 (.iload 4) 2 71 := ⟨by decide +kernel, rfl⟩
theorem eX2_land_71 : Dc cX2_land 71 (.iload_n 3) 1 72 := ⟨by decide +kernel, rfl⟩
theorem eX2_land_72 : Dc cX2_land 72 (.iastore) 1 73 := ⟨by decide +kernel, rfl⟩
theorem eX2_land_73 : Dc cX2_land 73 (.iload 5) 2 75 := ⟨by decide +kernel, rfl⟩
theorem eX2_land_75 : Dc cX2_land 75 (.ireturn) 1 76 := ⟨by decide +kernel, rfl⟩
theorem eX2_isCell_0 : Dc cX2_isCell 0 (.iload_n 0) 1 1 := ⟨by decide +kernel, rfl⟩
theorem eX2_isCell_1 : Dc cX2_isCell 1 (.iconst 0) 1 2 := ⟨by decide +kernel, rfl⟩
theorem eX2_isCell_2 : Dc cX2_isCell 2 (.bipush 79) 2 4 := ⟨by decide +kernel, rfl⟩
theorem eX2_isCell_4 : Dc cX2_isCell 4 (.invokestatic 58) 3 7 := ⟨by decide +kernel, rfl⟩
theorem eX2_isCell_7 : Dc cX2_isCell 7 (.ireturn) 1 8 := ⟨by decide +kernel, rfl⟩
theorem eX2_in_0 : Dc cX2_in 0 (.iload_n 0) 1 1 := ⟨by decide +kernel, rfl⟩
theorem eX2_in_1 : Dc cX2_in 1 (.iload_n 1) 1 2 := ⟨by decide +kernel, rfl⟩
theorem eX2_in_2 : Db cX2_in 2 (fun o => .if_icmp .lt o) 14 5 := ⟨12, by decide +kernel, by decide, rfl⟩
theorem eX2_in_5 : Dc cX2_in 5 (.iload_n 0) 1 6 := ⟨by decide +kernel, rfl⟩
theorem eX2_in_6 : Dc cX2_in 6 (.iload_n 2) 1 7 := ⟨by decide +kernel, rfl⟩
theorem eX2_in_7 : Db cX2_in 7 (fun o => .if_icmp .gt o) 14 10 := ⟨7, by decide +kernel, by decide, rfl⟩
theorem eX2_in_10 : Dc cX2_in 10 (.iconst 1) 1 11 := ⟨by decide +kernel, rfl⟩
theorem eX2_in_11 : Db cX2_in 11 (fun o => .goto o) 15 14 := ⟨4, by decide +kernel, by decide, rfl⟩
theorem eX2_in_14 : Dc cX2_in 14 (.iconst 0) 1 15 := ⟨by decide +kernel, rfl⟩
theorem eX2_in_15 : Dc cX2_in 15 (.ireturn) 1 16 := ⟨by decide +kernel, rfl⟩
theorem eX2_town_0 : Dc cX2_town 0 (.iload_n 1) 1 1 := ⟨by decide +kernel, rfl⟩
theorem eX2_town_1 : Dc cX2_town 1 (.invokestatic 66) 3 4 := ⟨by decide +kernel, rfl⟩
theorem eX2_town_4 : Db cX2_town 4 (fun o => .ifCond .ne o) 9 7 := ⟨5, by decide +kernel, by decide, rfl⟩
theorem eX2_town_7 : Dc cX2_town 7 (.iconst (-1)) 1 8 := ⟨by decide +kernel, rfl⟩
theorem eX2_town_8 : Dc cX2_town 8 (.ireturn) 1 9 := ⟨by decide +kernel, rfl⟩
theorem eX2_town_9 : Dc cX2_town 9 (.iload_n 2) 1 10 := ⟨by decide +kernel, rfl⟩
theorem eX2_town_10 : Dc cX2_town 10 (.iconst 0) 1 11 := ⟨by decide +kernel, rfl⟩
theorem eX2_town_11 : Dc cX2_town 11 (.bipush 99) 2 13 := ⟨by decide +kernel, rfl⟩
theorem eX2_town_13 : Dc cX2_town 13 (.invokestatic 58) 3 16 := ⟨by decide +kernel, rfl⟩
theorem eX2_town_16 : Db cX2_town 16 (fun o => .ifCond .ne o) 22 19 := ⟨6, by decide +kernel, by decide, rfl⟩
theorem eX2_town_19 : Dc cX2_town 19 (.bipush (-2)) 2 21 := ⟨by decide +kernel, rfl⟩
theorem eX2_town_21 : Dc cX2_town 21 (.ireturn) 1 22 := ⟨by decide +kernel, rfl⟩
theorem eX2_town_22 : Dc cX2_town 22 (.iconst 0) 1 23 := ⟨by decide +kernel, rfl⟩
theorem eX2_town_23 : Dc cX2_town 23 (.istore_n 3) 1 24 := ⟨by decide +kernel, rfl⟩
theorem eX2_town_24 : Dc cX2_town 24 (.iload_n 3) 1 25 := ⟨by decide +kernel, rfl⟩
theorem eX2_town_25 : Dc cX2_town 25 (.aload_n 0) 1 26 := ⟨by decide +kernel, rfl⟩
theorem eX2_town_26 : Dc cX2_town 26 (.getfield 8) 3 29 := ⟨by decide +kernel, rfl⟩
theorem eX2_town_29 : Dc cX2_town 29 (.iconst 1) 1 30 := ⟨by decide +kernel, rfl⟩
theorem eX2_town_30 : Dc cX2_town 30 (.iaload) 1 31 := ⟨by decide +kernel, rfl⟩
theorem eX2_town_31 : Db cX2_town 31 (fun o => .if_icmp .ge o) 57 34 := ⟨26, by decide +kernel, by decide, rfl⟩
theorem eX2_town_34 : Dc cX2_town 34 (.aload_n 0) 1 35 := ⟨by decide +kernel, rfl⟩
theorem eX2_town_35 : Dc cX2_town 35 (.getfield 8) 3 38 := ⟨by decide +kernel, rfl⟩
theorem eX2_town_38 : Dc cX2_town 38 (.sipush 180) 3 41 := ⟨by decide +kernel, rfl⟩
theorem eX2_town_41 : Dc cX2_town 41 (.iload_n 3) 1 42 := ⟨by decide +kernel, rfl⟩
theorem eX2_town_42 : Dc cX2_town 42 (.iadd) 1 43 := ⟨by decide +kernel, rfl⟩
theorem eX2_town_43 : Dc cX2_town 43 (.iaload) 1 44 := ⟨by decide +kernel, rfl⟩
theorem eX2_town_44 : Dc cX2_town 44 (.iload_n 1) 1 45 := ⟨by decide +kernel, rfl⟩
theorem eX2_town_45 : Db cX2_town 45 (fun o => .if_icmp .ne o) 51 48 := ⟨6, by decide +kernel, by decide, rfl⟩
theorem eX2_town_48 : Dc cX2_town 48 (.bipush (-3)) 2 50 := ⟨by decide +kernel, rfl⟩
theorem eX2_town_50 : Dc cX2_town 50 (.ireturn) 1 51 := ⟨by decide +kernel, rfl⟩
theorem eX2_town_51 : Dc cX2_town 51 (.iinc 3 1) 3 54 := ⟨by decide +kernel, rfl⟩
theorem eX2_town_54 : Db cX2_town 54 (fun o => .goto o) 24 57 := ⟨-30, by decide +kernel, by decide, rfl⟩
theorem eX2_town_57 : Dc cX2_town 57 (.aload_n 0) 1 58 := ⟨by decide +kernel, rfl⟩
theorem eX2_town_58 : Dc cX2_town 58 (.getfield 8) 3 61 := ⟨by decide +kernel, rfl⟩
theorem eX2_town_61 : Dc cX2_town 61 (.iconst 1) 1 62 := ⟨by decide +kernel, rfl⟩
theorem eX2_town_62 : Dc cX2_town 62 (.iaload) 1 63 := ⟨by decide +kernel, rfl⟩
theorem eX2_town_63 : Dc cX2_town 63 (.bipush 6) 2 65 := ⟨by decide +kernel, rfl⟩
theorem eX2_town_65 : Db cX2_town 65 (fun o => .if_icmp .ne o) 71 68 := ⟨6, by decide +kernel, by decide, rfl⟩
theorem eX2_town_68 : Dc cX2_town 68 (.bipush (-4)) 2 70 := ⟨by decide +kernel, rfl⟩
theorem eX2_town_70 : Dc cX2_town 70 (.ireturn) 1 71 := ⟨by decide +kernel, rfl⟩
theorem eX2_town_71 : Dc cX2_town 71 (.aload_n 0) 1 72 := ⟨by decide +kernel, rfl⟩
theorem eX2_town_72 : Dc cX2_town 72 (.getfield 8) 3 75 := ⟨by decide +kernel, rfl⟩
theorem eX2_town_75 : Dc cX2_town 75 (.sipush 180) 3 78 := ⟨by decide +kernel, rfl⟩
theorem eX2_town_78 : Dc cX2_town 78 (.aload_n 0) 1 79 := ⟨by decide +kernel, rfl⟩
theorem eX2_town_79 : Dc cX2_town 79 (.getfield 8) 3 82 := ⟨by decide +kernel, rfl⟩
theorem eX2_town_82 : Dc cX2_town 82 (.iconst 1) 1 83 := ⟨by decide +kernel, rfl⟩
theorem eX2_town_83 : Dc cX2_town 83 (.iaload) 1 84 := ⟨by decide +kernel, rfl⟩
theorem eX2_town_84 : Dc cX2_town 84 (.iadd) 1 85 := ⟨by decide +kernel, rfl⟩
theorem eX2_town_85 : Dc cX2_town 85 (.iload_n 1) 1 86 := ⟨by decide +kernel, rfl⟩
theorem eX2_town_86 : Dc cX2_town 86 (.iastore) 1 87 := ⟨by decide +kernel, rfl⟩
theorem eX2_town_87 : Dc cX2_town 87 (.aload_n 0) 1 88 := ⟨by decide +kernel, rfl⟩
theorem eX2_town_88 : Dc cX2_town 88 (.getfield 8) 3 91 := ⟨by decide +kernel, rfl⟩
theorem eX2_town_91 : Dc cX2_town 91 (.sipush 186) 3 94 := ⟨by decide +kernel, rfl⟩
theorem eX2_town_94 : Dc cX2_town 94 (.aload_n 0) 1 95 := ⟨by decide +kernel, rfl⟩
theorem eX2_town_95 : Dc cX2_town 95 (.getfield 8) 3 98 := ⟨by decide +kernel, rfl⟩
theorem eX2_town_98 : Dc cX2_town 98 (.iconst 1) 1 99 := ⟨by decide +kernel, rfl⟩
theorem eX2_town_99 : Dc cX2_town 99 (.iaload) 1 100 := ⟨by decide +kernel, rfl⟩
theorem eX2_town_100 : Dc cX2_town 100 (.iadd) 1 101 := ⟨by decide +kernel, rfl⟩
theorem eX2_town_101 : Dc cX2_town 101 (.iload_n 2) 1 102 := ⟨by decide +kernel, rfl⟩
theorem eX2_town_102 : Dc cX2_town 102 (.iastore) 1 103 := ⟨by decide +kernel, rfl⟩
theorem eX2_town_103 : Dc cX2_town 103 (.aload_n 0) 1 104 := ⟨by decide +kernel, rfl⟩
theorem eX2_town_104 : Dc cX2_town 104 (.getfield 8) 3 107 := ⟨by decide +kernel, rfl⟩
theorem eX2_town_107 : Dc cX2_town 107 (.iconst 1) 1 108 := ⟨by decide +kernel, rfl⟩
theorem eX2_town_108 : Dc cX2_town 108 (.dup2) 1 109 := ⟨by decide +kernel, rfl⟩
theorem eX2_town_109 : Dc cX2_town 109 (.iaload) 1 110 := ⟨by decide +kernel, rfl⟩
theorem eX2_town_110 : Dc cX2_town 110 (.iconst 1) 1 111 := ⟨by decide +kernel, rfl⟩
theorem eX2_town_111 : Dc cX2_town 111 (.iadd) 1 112 := ⟨by decide +kernel, rfl⟩
theorem eX2_town_112 : Dc cX2_town 112 (.iastore) 1 113 := ⟨by decide +kernel, rfl⟩
theorem eX2_town_113 : Dc cX2_town 113 (.aload_n 0) 1 114 := ⟨by decide +kernel, rfl⟩
theorem eX2_town_114 : Dc cX2_town 114 (.getfield 8) 3 117 := ⟨by decide +kernel, rfl⟩
theorem eX2_town_117 : Dc cX2_town 117 (.iconst 1) 1 118 := ⟨by decide +kernel, rfl⟩
theorem eX2_town_118 : Dc cX2_town 118 (.iaload) 1 119 := ⟨by decide +kernel, rfl⟩
theorem eX2_town_119 : Dc cX2_town 119 (.iconst 1) 1 120 := ⟨by decide +kernel, rfl⟩
theorem eX2_town_120 : Dc cX2_town 120 (.isub) 1 121 := ⟨by decide +kernel, rfl⟩
theorem eX2_town_121 : Dc cX2_town 121 (.ireturn) 1 122 := ⟨by decide +kernel, rfl⟩
theorem eX2_coin_0 : Dc cX2_coin 0 (.iload_n 1) 1 1 := ⟨by decide +kernel, rfl⟩
theorem eX2_coin_1 : Dc cX2_coin 1 (.invokestatic 69) 3 4 := ⟨by decide +kernel, rfl⟩
theorem eX2_coin_4 : Db cX2_coin 4 (fun o => .ifCond .ne o) 9 7 := ⟨5, by decide +kernel, by decide, rfl⟩
theorem eX2_coin_7 : Dc cX2_coin 7 (.iconst (-1)) 1 8 := ⟨by decide +kernel, rfl⟩
theorem eX2_coin_8 : Dc cX2_coin 8 (.ireturn) 1 9 := ⟨by decide +kernel, rfl⟩
theorem eX2_coin_9 : Dc cX2_coin 9 (.iload_n 2) 1 10 := ⟨by decide +kernel, rfl⟩
theorem eX2_coin_10 : Dc cX2_coin 10 (.iconst 0) 1 11 := ⟨by decide +kernel, rfl⟩
theorem eX2_coin_11 : Dc cX2_coin 11 (.ldc 72) 2 13 := ⟨by decide +kernel, rfl⟩
theorem eX2_coin_13 : Dc cX2_coin 13 (.invokestatic 58) 3 16 := ⟨by decide +kernel, rfl⟩
theorem eX2_coin_16 : Db cX2_coin 16 (fun o => .ifCond .ne o) 22 19 := ⟨6, by decide +kernel, by decide, rfl⟩
theorem eX2_coin_19 : Dc cX2_coin 19 (.bipush (-2)) 2 21 := ⟨by decide +kernel, rfl⟩
theorem eX2_coin_21 : Dc cX2_coin 21 (.ireturn) 1 22 := ⟨by decide +kernel, rfl⟩
theorem eX2_coin_22 : Dc cX2_coin 22 (.aload_n 0) 1 23 := ⟨by decide +kernel, rfl⟩
theorem eX2_coin_23 : Dc cX2_coin 23 (.getfield 8) 3 26 := ⟨by decide +kernel, rfl⟩
theorem eX2_coin_26 : Dc cX2_coin 26 (.sipush 192) 3 29 := ⟨by decide +kernel, rfl⟩
theorem eX2_coin_29 : Dc cX2_coin 29 (.iload_n 1) 1 30 := ⟨by decide +kernel, rfl⟩
theorem eX2_coin_30 : Dc cX2_coin 30 (.iadd) 1 31 := ⟨by decide +kernel, rfl⟩
theorem eX2_coin_31 : Dc cX2_coin 31 (.iaload) 1 32 := ⟨by decide +kernel, rfl⟩
theorem eX2_coin_32 : Dc cX2_coin 32 (.istore_n 3) 1 33 := ⟨by decide +kernel, rfl⟩
theorem eX2_coin_33 : Dc cX2_coin 33 (.aload_n 0) 1 34 := ⟨by decide +kernel, rfl⟩
theorem eX2_coin_34 : Dc cX2_coin 34 (.getfield 8) 3 37 := ⟨by decide +kernel, rfl⟩
theorem eX2_coin_37 : Dc cX2_coin 37 (.sipush 192) 3 40 := ⟨by decide +kernel, rfl⟩
theorem eX2_coin_40 : Dc cX2_coin 40 (.iload_n 1) 1 41 := ⟨by decide +kernel, rfl⟩
theorem eX2_coin_41 : Dc cX2_coin 41 (.iadd) 1 42 := ⟨by decide +kernel, rfl⟩
theorem eX2_coin_42 : Dc cX2_coin 42 (.iload_n 2) 1 43 := ⟨by decide +kernel, rfl⟩
theorem eX2_coin_43 : Dc cX2_coin 43 (.iastore) 1 44 := ⟨by decide +kernel, rfl⟩
theorem eX2_coin_44 : Dc cX2_coin 44 (.iload_n 3) 1 45 := ⟨by decide +kernel, rfl⟩
theorem eX2_coin_45 : Dc cX2_coin 45 (.ireturn) 1 46 := ⟨by decide +kernel, rfl⟩
theorem eX2_isHolder_0 : Dc cX2_isHolder 0 (.iload_n 0) 1 1 := ⟨by decide +kernel, rfl⟩
theorem eX2_isHolder_1 : Dc cX2_isHolder 1 (.iconst 0) 1 2 := ⟨by decide +kernel, rfl⟩
theorem eX2_isHolder_2 : Dc cX2_isHolder 2 (.bipush 7) 2 4 := ⟨by decide +kernel, rfl⟩
theorem eX2_isHolder_4 : Dc cX2_isHolder 4 (.invokestatic 58) 3 7 := ⟨by decide +kernel, rfl⟩
theorem eX2_isHolder_7 : Dc cX2_isHolder 7 (.ireturn) 1 8 := ⟨by decide +kernel, rfl⟩
theorem eX2_man_0 : Dc cX2_man 0 (.iload_n 1) 1 1 := ⟨by decide +kernel, rfl⟩
theorem eX2_man_1 : Dc cX2_man 1 (.iconst 0) 1 2 := ⟨by decide +kernel, rfl⟩
theorem eX2_man_2 : Dc cX2_man 2 (.bipush 99) 2 4 := ⟨by decide +kernel, rfl⟩
theorem eX2_man_4 : Dc cX2_man 4 (.invokestatic 58) 3 7 := ⟨by decide +kernel, rfl⟩
theorem eX2_man_7 : Db cX2_man 7 (fun o => .ifCond .ne o) 13 10 := ⟨6, by decide +kernel, by decide, rfl⟩
theorem eX2_man_10 : Dc cX2_man 10 (.bipush (-2)) 2 12 := ⟨by decide +kernel, rfl⟩
theorem eX2_man_12 : Dc cX2_man 12 (.ireturn) 1 13 := ⟨by decide +kernel, rfl⟩
theorem eX2_man_13 : Dc cX2_man 13 (.aload_n 0) 1 14 := ⟨by decide +kernel, rfl⟩
theorem eX2_man_14 : Dc cX2_man 14 (.getfield 8) 3 17 := ⟨by decide +kernel, rfl⟩
theorem eX2_man_17 : Dc cX2_man 17 (.iconst 5) 1 18 := ⟨by decide +kernel, rfl⟩
theorem eX2_man_18 : Dc cX2_man 18 (.iaload) 1 19 := ⟨by decide +kernel, rfl⟩
theorem eX2_man_19 : Dc cX2_man 19 (.istore_n 2) 1 20 := ⟨by decide +kernel, rfl⟩
theorem eX2_man_20 : Dc cX2_man 20 (.aload_n 0) 1 21 := ⟨by decide +kernel, rfl⟩
theorem eX2_man_21 : Dc cX2_man 21 (.getfield 8) 3 24 := ⟨by decide +kernel, rfl⟩
theorem eX2_man_24 : Dc cX2_man 24 (.iconst 5) 1 25 := ⟨by decide +kernel, rfl⟩
theorem eX2_man_25 : Dc cX2_man 25 (.iload_n 1) 1 26 := ⟨by decide +kernel, rfl⟩
theorem eX2_man_26 : Dc cX2_man 26 (.iastore) 1 27 := ⟨by decide +kernel, rfl⟩
theorem eX2_man_27 : Dc cX2_man 27 (.iload_n 2) 1 28 := ⟨by decide +kernel, rfl⟩
theorem eX2_man_28 : Dc cX2_man 28 (.ireturn) 1 29 := ⟨by decide +kernel, rfl⟩
theorem eX2_feed_0 : Dc cX2_feed 0 (.iload_n 3) 1 1 := ⟨by decide +kernel, rfl⟩
theorem eX2_feed_1 : Dc cX2_feed 1 (.iconst 1) 1 2 := ⟨by decide +kernel, rfl⟩
theorem eX2_feed_2 : Dc cX2_feed 2 (.bipush 8) 2 4 := ⟨by decide +kernel, rfl⟩
theorem eX2_feed_4 : Dc cX2_feed 4 (.invokestatic 58) 3 7 := ⟨by decide +kernel, rfl⟩
theorem eX2_feed_7 : Db cX2_feed 7 (fun o => .ifCond .ne o) 13 10 := ⟨6, by decide +kernel, by decide, rfl⟩
theorem eX2_feed_10 : Dc cX2_feed 10 (.bipush (-2)) 2 12 := ⟨by decide +kernel, rfl⟩
theorem eX2_feed_12 : Dc cX2_feed 12 (.ireturn) 1 13 := ⟨by decide +kernel, rfl⟩
theorem eX2_feed_13 : Dc cX2_feed 13 (.aload_n 0) 1 14 := ⟨by decide +kernel, rfl⟩
theorem eX2_feed_14 : Dc cX2_feed 14 (.getfield 8) 3 17 := ⟨by decide +kernel, rfl⟩
theorem eX2_feed_17 : Dc cX2_feed 17 (.iconst 4) 1 18 := ⟨by decide +kernel, rfl⟩
theorem eX2_feed_18 : Dc cX2_feed 18 (.iaload) 1 19 := ⟨by decide +kernel, rfl⟩
theorem eX2_feed_19 : Dc cX2_feed 19 (.iload_n 3) 1 20 := ⟨by decide +kernel, rfl⟩
theorem eX2_feed_20 : Dc cX2_feed 20 (.iadd) 1 21 := ⟨by decide +kernel, rfl⟩
theorem eX2_feed_21 : Dc cX2_feed 21 (.sipush 140) 3 24 := ⟨by decide +kernel, rfl⟩
theorem eX2_feed_24 : Db cX2_feed 24 (fun o => .if_icmp .le o) 30 27 := ⟨6, by decide +kernel, by decide, rfl⟩
theorem eX2_feed_27 : Dc cX2_feed 27 (.bipush (-4)) 2 29 := ⟨by decide +kernel, rfl⟩
theorem eX2_feed_29 : Dc cX2_feed 29 (.ireturn) 1 30 := ⟨by decide +kernel, rfl⟩
theorem eX2_feed_30 : Dc cX2_feed 30 (.iload_n 3) 1 31 := ⟨by decide +kernel, rfl⟩
theorem eX2_feed_31 : Dc cX2_feed 31 (.iconst 1) 1 32 := ⟨by decide +kernel, rfl⟩
theorem eX2_feed_32 : Dc cX2_feed 32 (.isub) 1 33 := ⟨by decide +kernel, rfl⟩
theorem eX2_feed_33 : Dc cX2_feed 33 (.istore 4) 2 35 := ⟨by decide +kernel, rfl⟩
theorem eX2_feed_35 : Dc cX2_feed 35 (.iload 4) 2 37 := ⟨by decide +kernel, rfl⟩
theorem eX2_feed_37 : Db cX2_feed 37 (fun o => .ifCond .lt o) 83 40 := ⟨46, by decide +kernel, by decide, rfl⟩
theorem eX2_feed_40 : Dc cX2_feed 40 (.aload_n 0) 1 41 := ⟨by decide +kernel, rfl⟩
theorem eX2_feed_41 : Dc cX2_feed 41 (.getfield 8) 3 44 := ⟨by decide +kernel, rfl⟩
theorem eX2_feed_44 : Dc cX2_feed 44 (.sipush 11150) 3 47 := ⟨by decide +kernel, rfl⟩
theorem eX2_feed_47 : Dc cX2_feed 47 (.aload_n 0) 1 48 := ⟨by decide +kernel, rfl⟩
theorem eX2_feed_48 : Dc cX2_feed 48 (.getfield 8) 3 51 := ⟨by decide +kernel, rfl⟩
theorem eX2_feed_51 : Dc cX2_feed 51 (.iconst 4) 1 52 := ⟨by decide +kernel, rfl⟩
theorem eX2_feed_52 : Dc cX2_feed 52 (.iaload) 1 53 := ⟨by decide +kernel, rfl⟩
theorem eX2_feed_53 : Dc cX2_feed 53 (.iadd) 1 54 := ⟨by decide +kernel, rfl⟩
theorem eX2_feed_54 : Dc cX2_feed 54 (.lload_n 1) 1 55 := ⟨by decide +kernel, rfl⟩
theorem eX2_feed_55 : Dc cX2_feed 55 (.bipush 8) 2 57 := ⟨by decide +kernel, rfl⟩
theorem eX2_feed_57 : Dc cX2_feed 57 (.iload 4) 2 59 := ⟨by decide +kernel, rfl⟩
theorem eX2_feed_59 : Dc cX2_feed 59 (.imul) 1 60 := ⟨by decide +kernel, rfl⟩
theorem eX2_feed_60 : Dc cX2_feed 60 (.lshr) 1 61 := ⟨by decide +kernel, rfl⟩
theorem eX2_feed_61 : Dc cX2_feed 61 (.ldc2_w 73) 3 64 := ⟨by decide +kernel, rfl⟩
theorem eX2_feed_64 : Dc cX2_feed 64 (.land) 1 65 := ⟨by decide +kernel, rfl⟩
theorem eX2_feed_65 : Dc cX2_feed 65 (.l2i) 1 66 := ⟨by decide +kernel, rfl⟩
theorem eX2_feed_66 : Dc cX2_feed 66 (.iastore) 1 67 := ⟨by decide +kernel, rfl⟩
theorem eX2_feed_67 : Dc cX2_feed 67 (.aload_n 0) 1 68 := ⟨by decide +kernel, rfl⟩
theorem eX2_feed_68 : Dc cX2_feed 68 (.getfield 8) 3 71 := ⟨by decide +kernel, rfl⟩
theorem eX2_feed_71 : Dc cX2_feed 71 (.iconst 4) 1 72 := ⟨by decide +kernel, rfl⟩
theorem eX2_feed_72 : Dc cX2_feed 72 (.dup2) 1 73 := ⟨by decide +kernel, rfl⟩
theorem eX2_feed_73 : Dc cX2_feed 73 (.iaload) 1 74 := ⟨by decide +kernel, rfl⟩
theorem eX2_feed_74 : Dc cX2_feed 74 (.iconst 1) 1 75 := ⟨by decide +kernel, rfl⟩
theorem eX2_feed_75 : Dc cX2_feed 75 (.iadd) 1 76 := ⟨by decide +kernel, rfl⟩
theorem eX2_feed_76 : Dc cX2_feed 76 (.iastore) 1 77 := ⟨by decide +kernel, rfl⟩
theorem eX2_feed_77 : Dc cX2_feed 77 (.iinc 4 (-1)) 3 80 := ⟨by decide +kernel, rfl⟩
theorem eX2_feed_80 : Db cX2_feed 80 (fun o => .goto o) 35 83 := ⟨-45, by decide +kernel, by decide, rfl⟩
theorem eX2_feed_83 : Dc cX2_feed 83 (.aload_n 0) 1 84 := ⟨by decide +kernel, rfl⟩
theorem eX2_feed_84 : Dc cX2_feed 84 (.getfield 8) 3 87 := ⟨by decide +kernel, rfl⟩
theorem eX2_feed_87 : Dc cX2_feed 87 (.iconst 4) 1 88 := ⟨by decide +kernel, rfl⟩
theorem eX2_feed_88 : Dc cX2_feed 88 (.iaload) 1 89 := ⟨by decide +kernel, rfl⟩
theorem eX2_feed_89 : Dc cX2_feed 89 (.ireturn) 1 90 := ⟨by decide +kernel, rfl⟩
theorem eX2_text_0 : Dc cX2_text 0 (.iload_n 1) 1 1 := ⟨by decide +kernel, rfl⟩
theorem eX2_text_1 : Dc cX2_text 1 (.invokestatic 141) 3 4 := ⟨by decide +kernel, rfl⟩
theorem eX2_text_4 : Db cX2_text 4 (fun o => .ifCond .ne o) 10 7 := ⟨6, by decide +kernel, by decide, rfl⟩
theorem eX2_text_7 : Dc cX2_text 7 (.bipush (-2)) 2 9 := ⟨by decide +kernel, rfl⟩
theorem eX2_text_9 : Dc cX2_text 9 (.ireturn) 1 10 := ⟨by decide +kernel, rfl⟩
theorem eX2_text_10 : Dc cX2_text 10 (.aload_n 0) 1 11 := ⟨by decide +kernel, rfl⟩
theorem eX2_text_11 : Dc cX2_text 11 (.getfield 8) 3 14 := ⟨by decide +kernel, rfl⟩
theorem eX2_text_14 : Dc cX2_text 14 (.iconst 3) 1 15 := ⟨by decide +kernel, rfl⟩
theorem eX2_text_15 : Dc cX2_text 15 (.iaload) 1 16 := ⟨by decide +kernel, rfl⟩
theorem eX2_text_16 : Dc cX2_text 16 (.bipush 8) 2 18 := ⟨by decide +kernel, rfl⟩
theorem eX2_text_18 : Db cX2_text 18 (fun o => .if_icmp .ne o) 24 21 := ⟨6, by decide +kernel, by decide, rfl⟩
theorem eX2_text_21 : Dc cX2_text 21 (.bipush (-4)) 2 23 := ⟨by decide +kernel, rfl⟩
theorem eX2_text_23 : Dc cX2_text 23 (.ireturn) 1 24 := ⟨by decide +kernel, rfl⟩
theorem eX2_text_24 : Dc cX2_text 24 (.aload_n 0) 1 25 := ⟨by decide +kernel, rfl⟩
theorem eX2_text_25 : Dc cX2_text 25 (.aload_n 0) 1 26 := ⟨by decide +kernel, rfl⟩
theorem eX2_text_26 : Dc cX2_text 26 (.getfield 8) 3 29 := ⟨by decide +kernel, rfl⟩
theorem eX2_text_29 : Dc cX2_text 29 (.iconst 3) 1 30 := ⟨by decide +kernel, rfl⟩
theorem eX2_text_30 : Dc cX2_text 30 (.iaload) 1 31 := ⟨by decide +kernel, rfl⟩
theorem eX2_text_31 : Dc cX2_text 31 (.iload_n 1) 1 32 := ⟨by decide +kernel, rfl⟩
theorem eX2_text_32 : Dc cX2_text 32 (.invokevirtual 144) 3 35 := ⟨by decide +kernel, rfl⟩
theorem eX2_text_35 : Db cX2_text 35 (fun o => .ifCond .ne o) 46 38 := ⟨11, by decide +kernel, by decide, rfl⟩
theorem eX2_text_38 : Dc cX2_text 38 (.bipush (-10)) 2 40 := ⟨by decide +kernel, rfl⟩
theorem eX2_text_40 : Dc cX2_text 40 (.aload_n 0) 1 41 := ⟨by decide +kernel, rfl⟩
theorem eX2_text_41 : Dc cX2_text 41 (.getfield 75) 3 44 := ⟨by decide +kernel, rfl⟩
theorem eX2_text_44 : Dc cX2_text 44 (.isub) 1 45 := ⟨by decide +kernel, rfl⟩
theorem eX2_text_45 : Dc cX2_text 45 (.ireturn) 1 46 := ⟨by decide +kernel, rfl⟩
theorem eX2_text_46 : Dc cX2_text 46 (.aload_n 0) 1 47 := ⟨by decide +kernel, rfl⟩
theorem eX2_text_47 : Dc cX2_text 47 (.getfield 8) 3 50 := ⟨by decide +kernel, rfl⟩
theorem eX2_text_50 : Dc cX2_text 50 (.iconst 3) 1 51 := ⟨by decide +kernel, rfl⟩
theorem eX2_text_51 : Dc cX2_text 51 (.dup2) 1 52 := ⟨by decide +kernel, rfl⟩
theorem eX2_text_52 : Dc cX2_text 52 (.iaload) 1 53 := ⟨by decide +kernel, rfl⟩
theorem eX2_text_53 : Dc cX2_text 53 (.iconst 1) 1 54 := ⟨by decide +kernel, rfl⟩
theorem eX2_text_54 : Dc cX2_text 54 (.iadd) 1 55 := ⟨by decide +kernel, rfl⟩
theorem eX2_text_55 : Dc cX2_text 55 (.iastore) 1 56 := ⟨by decide +kernel, rfl⟩
theorem eX2_text_56 : Dc cX2_text 56 (.aload_n 0) 1 57 := ⟨by decide +kernel, rfl⟩
theorem eX2_text_57 : Dc cX2_text 57 (.getfield 8) 3 60 := ⟨by decide +kernel, rfl⟩
theorem eX2_text_60 : Dc cX2_text 60 (.iconst 3) 1 61 := ⟨by decide +kernel, rfl⟩
theorem eX2_text_61 : Dc cX2_text 61 (.iaload) 1 62 := ⟨by decide +kernel, rfl⟩
theorem eX2_text_62 : Dc cX2_text 62 (.iconst 1) 1 63 := ⟨by decide +kernel, rfl⟩
theorem eX2_text_63 : Dc cX2_text 63 (.isub) 1 64 := ⟨by decide +kernel, rfl⟩
theorem eX2_text_64 : Dc cX2_text 64 (.ireturn) 1 65 := ⟨by decide +kernel, rfl⟩
theorem eX2_isDay_0 : Dc cX2_isDay 0 (.iload_n 0) 1 1 := ⟨by decide +kernel, rfl⟩
theorem eX2_isDay_1 : Dc cX2_isDay 1 (.iconst 0) 1 2 := ⟨by decide +kernel, rfl⟩
theorem eX2_isDay_2 : Dc cX2_isDay 2 (.sipush 999) 3 5 := ⟨by decide +kernel, rfl⟩
theorem eX2_isDay_5 : Dc cX2_isDay 5 (.invokestatic 58) 3 8 := ⟨by decide +kernel, rfl⟩
theorem eX2_isDay_8 : Dc cX2_isDay 8 (.ireturn) 1 9 := ⟨by decide +kernel, rfl⟩
theorem eX2_readsOrder_0 : Dc cX2_readsOrder 0 (.aload_n 0) 1 1 := ⟨by decide +kernel, rfl⟩
theorem eX2_readsOrder_1 : Dc cX2_readsOrder 1 (.getfield 8) 3 4 := ⟨by decide +kernel, rfl⟩
theorem eX2_readsOrder_4 : Dc cX2_readsOrder 4 (.sipush 9620) 3 7 := ⟨by decide +kernel, rfl⟩
theorem eX2_readsOrder_7 : Dc cX2_readsOrder 7 (.iload_n 1) 1 8 := ⟨by decide +kernel, rfl⟩
theorem eX2_readsOrder_8 : Dc cX2_readsOrder 8 (.iadd) 1 9 := ⟨by decide +kernel, rfl⟩
theorem eX2_readsOrder_9 : Dc cX2_readsOrder 9 (.iload_n 2) 1 10 := ⟨by decide +kernel, rfl⟩
theorem eX2_readsOrder_10 : Dc cX2_readsOrder 10 (.iastore) 1 11 := ⟨by decide +kernel, rfl⟩
theorem eX2_readsOrder_11 : Dc cX2_readsOrder 11 (.aload_n 0) 1 12 := ⟨by decide +kernel, rfl⟩
theorem eX2_readsOrder_12 : Dc cX2_readsOrder 12 (.getfield 8) 3 15 := ⟨by decide +kernel, rfl⟩
theorem eX2_readsOrder_15 : Dc cX2_readsOrder 15 (.sipush 9630) 3 18 := ⟨by decide +kernel, rfl⟩
theorem eX2_readsOrder_18 : Dc cX2_readsOrder 18 (.iload_n 1) 1 19 := ⟨by decide +kernel, rfl⟩
theorem eX2_readsOrder_19 : Dc cX2_readsOrder 19 (.iadd) 1 20 := ⟨by decide +kernel, rfl⟩
theorem eX2_readsOrder_20 : Dc cX2_readsOrder 20 (.aload_n 0) 1 21 := ⟨by decide +kernel, rfl⟩
theorem eX2_readsOrder_21 : Dc cX2_readsOrder 21 (.getfield 8) 3 24 := ⟨by decide +kernel, rfl⟩
theorem eX2_readsOrder_24 : Dc cX2_readsOrder 24 (.iconst 4) 1 25 := ⟨by decide +kernel, rfl⟩
theorem eX2_readsOrder_25 : Dc cX2_readsOrder 25 (.iaload) 1 26 := ⟨by decide +kernel, rfl⟩
theorem eX2_readsOrder_26 : Dc cX2_readsOrder 26 (.iastore) 1 27 := ⟨by decide +kernel, rfl⟩
theorem eX2_readsOrder_27 : Dc cX2_readsOrder 27 (.iconst 0) 1 28 := ⟨by decide +kernel, rfl⟩
theorem eX2_readsOrder_28 : Dc cX2_readsOrder 28 (.istore_n 3) 1 29 := ⟨by decide +kernel, rfl⟩
theorem eX2_readsOrder_29 : Dc cX2_readsOrder 29 (.iload_n 3) 1 30 := ⟨by decide +kernel, rfl⟩
theorem eX2_readsOrder_30 : Dc cX2_readsOrder 30 (.aload_n 0) 1 31 := ⟨by decide +kernel, rfl⟩
theorem eX2_readsOrder_31 : Dc cX2_readsOrder 31 (.getfield 8) 3 34 := ⟨by decide +kernel, rfl⟩
theorem eX2_readsOrder_34 : Dc cX2_readsOrder 34 (.iconst 4) 1 35 := ⟨by decide +kernel, rfl⟩
theorem eX2_readsOrder_35 : Dc cX2_readsOrder 35 (.iaload) 1 36 := ⟨by decide +kernel, rfl⟩
theorem eX2_readsOrder_36 : Db cX2_readsOrder 36 (fun o => .if_icmp .ge o) 71 39 := ⟨35, by decide +kernel, by decide, rfl⟩
theorem eX2_readsOrder_39 : Dc cX2_readsOrder 39 (.aload_n 0) 1 40 := ⟨by decide +kernel, rfl⟩
theorem eX2_readsOrder_40 : Dc cX2_readsOrder 40 (.getfield 8) 3 43 := ⟨by decide +kernel, rfl⟩
theorem eX2_readsOrder_43 : Dc cX2_readsOrder 43 (.sipush 9640) 3 46 := ⟨by decide +kernel, rfl⟩
theorem eX2_readsOrder_46 : Dc cX2_readsOrder 46 (.sipush 140) 3 49 := ⟨by decide +kernel, rfl⟩
theorem eX2_readsOrder_49 : Dc cX2_readsOrder 49 (.iload_n 1) 1 50 := ⟨by decide +kernel, rfl⟩
theorem eX2_readsOrder_50 : Dc cX2_readsOrder 50 (.imul) 1 51 := ⟨by decide +kernel, rfl⟩
theorem eX2_readsOrder_51 : Dc cX2_readsOrder 51 (.iadd) 1 52 := ⟨by decide +kernel, rfl⟩
theorem eX2_readsOrder_52 : Dc cX2_readsOrder 52 (.iload_n 3) 1 53 := ⟨by decide +kernel, rfl⟩
theorem eX2_readsOrder_53 : Dc cX2_readsOrder 53 (.iadd) 1 54 := ⟨by decide +kernel, rfl⟩
theorem eX2_readsOrder_54 : Dc cX2_readsOrder 54 (.aload_n 0) 1 55 := ⟨by decide +kernel, rfl⟩
theorem eX2_readsOrder_55 : Dc cX2_readsOrder 55 (.getfield 8) 3 58 := ⟨by decide +kernel, rfl⟩
theorem eX2_readsOrder_58 : Dc cX2_readsOrder 58 (.sipush 11150) 3 61 := ⟨by decide +kernel, rfl⟩
theorem eX2_readsOrder_61 : Dc cX2_readsOrder 61 (.iload_n 3) 1 62 := ⟨by decide +kernel, rfl⟩
theorem eX2_readsOrder_62 : Dc cX2_readsOrder 62 (.iadd) 1 63 := ⟨by decide +kernel, rfl⟩
theorem eX2_readsOrder_63 : Dc cX2_readsOrder 63 (.iaload) 1 64 := ⟨by decide +kernel, rfl⟩
theorem eX2_readsOrder_64 : Dc cX2_readsOrder 64 (.iastore) 1 65 := ⟨by decide +kernel, rfl⟩
theorem eX2_readsOrder_65 : Dc cX2_readsOrder 65 (.iinc 3 1) 3 68 := ⟨by decide +kernel, rfl⟩
theorem eX2_readsOrder_68 : Db cX2_readsOrder 68 (fun o => .goto o) 29 71 := ⟨-39, by decide +kernel, by decide, rfl⟩
theorem eX2_readsOrder_71 : Dc cX2_readsOrder 71 (.aload_n 0) 1 72 := ⟨by decide +kernel, rfl⟩
theorem eX2_readsOrder_72 : Dc cX2_readsOrder 72 (.getfield 8) 3 75 := ⟨by decide +kernel, rfl⟩
theorem eX2_readsOrder_75 : Dc cX2_readsOrder 75 (.iconst 4) 1 76 := ⟨by decide +kernel, rfl⟩
theorem eX2_readsOrder_76 : Dc cX2_readsOrder 76 (.iconst 0) 1 77 := ⟨by decide +kernel, rfl⟩
theorem eX2_readsOrder_77 : Dc cX2_readsOrder 77 (.iastore) 1 78 := ⟨by decide +kernel, rfl⟩
theorem eX2_readsOrder_78 : Dc cX2_readsOrder 78 (.aload_n 0) 1 79 := ⟨by decide +kernel, rfl⟩
theorem eX2_readsOrder_79 : Dc cX2_readsOrder 79 (.getfield 8) 3 82 := ⟨by decide +kernel, rfl⟩
theorem eX2_readsOrder_82 : Dc cX2_readsOrder 82 (.sipush 10900) 3 85 := ⟨by decide +kernel, rfl⟩
theorem eX2_readsOrder_85 : Dc cX2_readsOrder 85 (.iload_n 1) 1 86 := ⟨by decide +kernel, rfl⟩
theorem eX2_readsOrder_86 : Dc cX2_readsOrder 86 (.iadd) 1 87 := ⟨by decide +kernel, rfl⟩
theorem eX2_readsOrder_87 : Dc cX2_readsOrder 87 (.iconst 0) 1 88 := ⟨by decide +kernel, rfl⟩
theorem eX2_readsOrder_88 : Dc cX2_readsOrder 88 (.iastore) 1 89 := ⟨by decide +kernel, rfl⟩
theorem eX2_readsOrder_89 : Dc cX2_readsOrder 89 (.aload_n 0) 1 90 := ⟨by decide +kernel, rfl⟩
theorem eX2_readsOrder_90 : Dc cX2_readsOrder 90 (.iload_n 1) 1 91 := ⟨by decide +kernel, rfl⟩
theorem eX2_readsOrder_91 : Dc cX2_readsOrder 91 (.putfield 78) 3 94 := ⟨by decide +kernel, rfl⟩
theorem eX2_readsOrder_94 : Dc cX2_readsOrder 94 (.aload_n 0) 1 95 := ⟨by decide +kernel, rfl⟩
theorem eX2_readsOrder_95 : Dc cX2_readsOrder 95 (.iconst 0) 1 96 := ⟨by decide +kernel, rfl⟩
theorem eX2_readsOrder_96 : Dc cX2_readsOrder 96 (.putfield 75) 3 99 := ⟨by decide +kernel, rfl⟩
theorem eX2_readsOrder_99 : Dc cX2_readsOrder 99 (.aload_n 0) 1 100 := ⟨by decide +kernel, rfl⟩
theorem eX2_readsOrder_100 : Dc cX2_readsOrder 100 (.iconst 0) 1 101 := ⟨by decide +kernel, rfl⟩
theorem eX2_readsOrder_101 : Dc cX2_readsOrder 101 (.putfield 116) 3 104 := ⟨by decide +kernel, rfl⟩
theorem eX2_readsOrder_104 : Dc cX2_readsOrder 104 (.aload_n 0) 1 105 := ⟨by decide +kernel, rfl⟩
theorem eX2_readsOrder_105 : Dc cX2_readsOrder 105 (.iconst 0) 1 106 := ⟨by decide +kernel, rfl⟩
theorem eX2_readsOrder_106 : Dc cX2_readsOrder 106 (.putfield 81) 3 109 := ⟨by decide +kernel, rfl⟩
theorem eX2_readsOrder_109 : Dc cX2_readsOrder 109 (.aload_n 0) 1 110 := ⟨by decide +kernel, rfl⟩
theorem eX2_readsOrder_110 : Dc cX2_readsOrder 110 (.iload_n 1) 1 111 := ⟨by decide +kernel, rfl⟩
theorem eX2_readsOrder_111 : Dc cX2_readsOrder 111 (.invokevirtual 138) 3 114 := ⟨by decide +kernel, rfl⟩
theorem eX2_readsOrder_114 : Dc cX2_readsOrder 114 (.aload_n 0) 1 115 := ⟨by decide +kernel, rfl⟩
theorem eX2_readsOrder_115 : Dc cX2_readsOrder 115 (.getfield 81) 3 118 := ⟨by decide +kernel, rfl⟩
theorem eX2_readsOrder_118 : Db cX2_readsOrder 118 (fun o => .ifCond .ne o) 163 121 := ⟨45, by decide +kernel, by decide, rfl⟩
theorem eX2_readsOrder_121 : Dc cX2_readsOrder 121 (.aload_n 0) 1 122 := ⟨by decide +kernel, rfl⟩
theorem eX2_readsOrder_122 : Dc cX2_readsOrder 122 (.getfield 8) 3 125 := ⟨by decide +kernel, rfl⟩
theorem eX2_readsOrder_125 : Dc cX2_readsOrder 125 (.sipush 10900) 3 128 := ⟨by decide +kernel, rfl⟩
theorem eX2_readsOrder_128 : Dc cX2_readsOrder 128 (.iload_n 1) 1 129 := ⟨by decide +kernel, rfl⟩
theorem eX2_readsOrder_129 : Dc cX2_readsOrder 129 (.iadd) 1 130 := ⟨by decide +kernel, rfl⟩
theorem eX2_readsOrder_130 : Dc cX2_readsOrder 130 (.iaload) 1 131 := ⟨by decide +kernel, rfl⟩
theorem eX2_readsOrder_131 : Dc cX2_readsOrder 131 (.bipush 8) 2 133 := ⟨by decide +kernel, rfl⟩
theorem eX2_readsOrder_133 : Db cX2_readsOrder 133 (fun o => .if_icmp .ge o) 163 136 := ⟨30, by decide +kernel, by decide, rfl⟩
theorem eX2_readsOrder_136 : Dc cX2_readsOrder 136 (.aload_n 0) 1 137 := ⟨by decide +kernel, rfl⟩
theorem eX2_readsOrder_137 : Dc cX2_readsOrder 137 (.invokevirtual 85) 3 140 := ⟨by decide +kernel, rfl⟩
theorem eX2_readsOrder_140 : Dc cX2_readsOrder 140 (.bipush 59) 2 142 := ⟨by decide +kernel, rfl⟩
theorem eX2_readsOrder_142 : Db cX2_readsOrder 142 (fun o => .if_icmp .ne o) 163 145 := ⟨21, by decide +kernel, by decide, rfl⟩
theorem eX2_readsOrder_145 : Dc cX2_readsOrder 145 (.aload_n 0) 1 146 := ⟨by decide +kernel, rfl⟩
theorem eX2_readsOrder_146 : Dc cX2_readsOrder 146 (.dup) 1 147 := ⟨by decide +kernel, rfl⟩
theorem eX2_readsOrder_147 : Dc cX2_readsOrder 147 (.getfield 75) 3 150 := ⟨by decide +kernel, rfl⟩
theorem eX2_readsOrder_150 : Dc cX2_readsOrder 150 (.iconst 1) 1 151 := ⟨by decide +kernel, rfl⟩
theorem eX2_readsOrder_151 : Dc cX2_readsOrder 151 (.iadd) 1 152 := ⟨by decide +kernel, rfl⟩
theorem eX2_readsOrder_152 : Dc cX2_readsOrder 152 (.putfield 75) 3 155 := ⟨by decide +kernel, rfl⟩
theorem eX2_readsOrder_155 : Dc cX2_readsOrder 155 (.aload_n 0) 1 156 := ⟨by decide +kernel, rfl⟩
theorem eX2_readsOrder_156 : Dc cX2_readsOrder 156 (.iload_n 1) 1 157 := ⟨by decide +kernel, rfl⟩
theorem eX2_readsOrder_157 : Dc cX2_readsOrder 157 (.invokevirtual 138) 3 160 := ⟨by decide +kernel, rfl⟩
theorem eX2_readsOrder_160 : Db cX2_readsOrder 160 (fun o => .goto o) 114 163 := ⟨-46, by decide +kernel, by decide, rfl⟩
theorem eX2_readsOrder_163 : Dc cX2_readsOrder 163 (.aload_n 0) 1 164 := ⟨by decide +kernel, rfl⟩
theorem eX2_readsOrder_164 : Dc cX2_readsOrder 164 (.aload_n 0) 1 165 := ⟨by decide +kernel, rfl⟩
theorem eX2_readsOrder_165 : Dc cX2_readsOrder 165 (.getfield 81) 3 168 := ⟨by decide +kernel, rfl⟩
theorem eX2_readsOrder_168 : Db cX2_readsOrder 168 (fun o => .ifCond .ne o) 188 171 := ⟨20, by decide +kernel, by decide, rfl⟩
theorem eX2_readsOrder_171 : Dc cX2_readsOrder 171 (.aload_n 0) 1 172 := ⟨by decide +kernel, rfl⟩
theorem eX2_readsOrder_172 : Dc cX2_readsOrder 172 (.getfield 75) 3 175 := ⟨by decide +kernel, rfl⟩
theorem eX2_readsOrder_175 : Dc cX2_readsOrder 175 (.aload_n 0) 1 176 := ⟨by decide +kernel, rfl⟩
theorem eX2_readsOrder_176 : Dc cX2_readsOrder 176 (.getfield 8) 3 179 := ⟨by decide +kernel, rfl⟩
theorem eX2_readsOrder_179 : Dc cX2_readsOrder 179 (.sipush 9630) 3 182 := ⟨by decide +kernel, rfl⟩
theorem eX2_readsOrder_182 : Dc cX2_readsOrder 182 (.iload_n 1) 1 183 := ⟨by decide +kernel, rfl⟩
theorem eX2_readsOrder_183 : Dc cX2_readsOrder 183 (.iadd) 1 184 := ⟨by decide +kernel, rfl⟩
theorem eX2_readsOrder_184 : Dc cX2_readsOrder 184 (.iaload) 1 185 := ⟨by decide +kernel, rfl⟩
theorem eX2_readsOrder_185 : Db cX2_readsOrder 185 (fun o => .if_icmp .eq o) 192 188 := ⟨7, by decide +kernel, by decide, rfl⟩
theorem eX2_readsOrder_188 : Dc cX2_readsOrder 188 (.iconst 1) 1 189 := ⟨by decide +kernel, rfl⟩
theorem eX2_readsOrder_189 : Db cX2_readsOrder 189 (fun o => .goto o) 193 192 := ⟨4, by decide +kernel, by decide, rfl⟩
theorem eX2_readsOrder_192 : Dc cX2_readsOrder 192 (.iconst 0) 1 193 := ⟨by decide +kernel, rfl⟩
theorem eX2_readsOrder_193 : Dc cX2_readsOrder 193 (.putfield 81) 3 196 := ⟨by decide +kernel, rfl⟩
theorem eX2_readsOrder_196 : Dc cX2_readsOrder 196 (.aload_n 0) 1 197 := ⟨by decide +kernel, rfl⟩
theorem eX2_readsOrder_197 : Dc cX2_readsOrder 197 (.getfield 81) 3 200 := ⟨by decide +kernel, rfl⟩
theorem eX2_readsOrder_200 : Db cX2_readsOrder 200 (fun o => .ifCond .ne o) 207 203 := ⟨7, by decide +kernel, by decide, rfl⟩
theorem eX2_readsOrder_203 : Dc cX2_readsOrder 203 (.iconst 1) 1 204 := ⟨by decide +kernel, rfl⟩
theorem eX2_readsOrder_204 : Db cX2_readsOrder 204 (fun o => .goto o) 208 207 := ⟨4, by decide +kernel, by decide, rfl⟩
theorem eX2_readsOrder_207 : Dc cX2_readsOrder 207 (.iconst 0) 1 208 := ⟨by decide +kernel, rfl⟩
theorem eX2_readsOrder_208 : Dc cX2_readsOrder 208 (.ireturn) 1 209 := ⟨by decide +kernel, rfl⟩
theorem eX2_reads_0 : Dc cX2_reads 0 (.bipush 8) 2 2 := ⟨by decide +kernel, rfl⟩
theorem eX2_reads_2 : Dc cX2_reads 2 (.iload_n 1) 1 3 := ⟨by decide +kernel, rfl⟩
theorem eX2_reads_3 : Dc cX2_reads 3 (.imul) 1 4 := ⟨by decide +kernel, rfl⟩
theorem eX2_reads_4 : Dc cX2_reads 4 (.aload_n 0) 1 5 := ⟨by decide +kernel, rfl⟩
theorem eX2_reads_5 : Dc cX2_reads 5 (.getfield 8) 3 8 := ⟨by decide +kernel, rfl⟩
theorem eX2_reads_8 : Dc cX2_reads 8 (.sipush 10900) 3 11 := ⟨by decide +kernel, rfl⟩
theorem eX2_reads_11 : Dc cX2_reads 11 (.iload_n 1) 1 12 := ⟨by decide +kernel, rfl⟩
theorem eX2_reads_12 : Dc cX2_reads 12 (.iadd) 1 13 := ⟨by decide +kernel, rfl⟩
theorem eX2_reads_13 : Dc cX2_reads 13 (.iaload) 1 14 := ⟨by decide +kernel, rfl⟩
theorem eX2_reads_14 : Dc cX2_reads 14 (.iadd) 1 15 := ⟨by decide +kernel, rfl⟩
theorem eX2_reads_15 : Dc cX2_reads 15 (.istore_n 2) 1 16 := ⟨by decide +kernel, rfl⟩
theorem eX2_reads_16 : Dc cX2_reads 16 (.aload_n 0) 1 17 := ⟨by decide +kernel, rfl⟩
theorem eX2_reads_17 : Dc cX2_reads 17 (.invokevirtual 135) 3 20 := ⟨by decide +kernel, rfl⟩
theorem eX2_reads_20 : Dc cX2_reads 20 (.istore_n 3) 1 21 := ⟨by decide +kernel, rfl⟩
theorem eX2_reads_21 : Dc cX2_reads 21 (.aload_n 0) 1 22 := ⟨by decide +kernel, rfl⟩
theorem eX2_reads_22 : Dc cX2_reads 22 (.getfield 81) 3 25 := ⟨by decide +kernel, rfl⟩
theorem eX2_reads_25 : Db cX2_reads 25 (fun o => .ifCond .eq o) 29 28 := ⟨4, by decide +kernel, by decide, rfl⟩
theorem eX2_reads_28 : Dc cX2_reads 28 (.return_) 1 29 := ⟨by decide +kernel, rfl⟩
theorem eX2_reads_29 : Dc cX2_reads 29 (.aload_n 0) 1 30 := ⟨by decide +kernel, rfl⟩
theorem eX2_reads_30 : Dc cX2_reads 30 (.getfield 8) 3 33 := ⟨by decide +kernel, rfl⟩
theorem eX2_reads_33 : Dc cX2_reads 33 (.sipush 10910) 3 36 := ⟨by decide +kernel, rfl⟩
theorem eX2_reads_36 : Dc cX2_reads 36 (.iload_n 2) 1 37 := ⟨by decide +kernel, rfl⟩
theorem eX2_reads_37 : Dc cX2_reads 37 (.iadd) 1 38 := ⟨by decide +kernel, rfl⟩
theorem eX2_reads_38 : Dc cX2_reads 38 (.iload_n 3) 1 39 := ⟨by decide +kernel, rfl⟩
theorem eX2_reads_39 : Dc cX2_reads 39 (.iastore) 1 40 := ⟨by decide +kernel, rfl⟩
theorem eX2_reads_40 : Dc cX2_reads 40 (.aload_n 0) 1 41 := ⟨by decide +kernel, rfl⟩
theorem eX2_reads_41 : Dc cX2_reads 41 (.getfield 8) 3 44 := ⟨by decide +kernel, rfl⟩
theorem eX2_reads_44 : Dc cX2_reads 44 (.sipush 11070) 3 47 := ⟨by decide +kernel, rfl⟩
theorem eX2_reads_47 : Dc cX2_reads 47 (.iload_n 2) 1 48 := ⟨by decide +kernel, rfl⟩
theorem eX2_reads_48 : Dc cX2_reads 48 (.iadd) 1 49 := ⟨by decide +kernel, rfl⟩
theorem eX2_reads_49 : Dc cX2_reads 49 (.aload_n 0) 1 50 := ⟨by decide +kernel, rfl⟩
theorem eX2_reads_50 : Dc cX2_reads 50 (.getfield 75) 3 53 := ⟨by decide +kernel, rfl⟩
theorem eX2_reads_53 : Dc cX2_reads 53 (.iastore) 1 54 := ⟨by decide +kernel, rfl⟩
theorem eX2_reads_54 : Dc cX2_reads 54 (.iload_n 3) 1 55 := ⟨by decide +kernel, rfl⟩
theorem eX2_reads_55 : Dc cX2_reads 55 (.iconst 5) 1 56 := ⟨by decide +kernel, rfl⟩
theorem eX2_reads_56 : Db cX2_reads 56 (fun o => .if_icmp .ne o) 134 59 := ⟨78, by decide +kernel, by decide, rfl⟩
theorem eX2_reads_59 : Dc cX2_reads 59 (.aload_n 0) 1 60 := ⟨by decide +kernel, rfl⟩
theorem eX2_reads_60 : Dc cX2_reads 60 (.invokevirtual 85) 3 63 := ⟨by decide +kernel, rfl⟩
theorem eX2_reads_63 : Dc cX2_reads 63 (.istore 4) 2 65 := ⟨by decide +kernel, rfl⟩
theorem eX2_reads_65 : Dc cX2_reads 65 (.aload_n 0) 1 66 := ⟨by decide +kernel, rfl⟩
theorem eX2_reads_66 : Dc cX2_reads 66 (.iload 4) 2 68 := ⟨by decide +kernel, rfl⟩
theorem eX2_reads_68 : Dc cX2_reads 68 (.bipush 121) 2 70 := ⟨by decide +kernel, rfl⟩
theorem eX2_reads_70 : Db cX2_reads 70 (fun o => .if_icmp .eq o) 84 73 := ⟨14, by decide +kernel, by decide, rfl⟩
theorem eX2_reads_73 : Dc cX2_reads 73 (.iload 4) 2 75 := ⟨by decide +kernel, rfl⟩
theorem eX2_reads_75 : Dc cX2_reads 75 (.bipush 110) 2 77 := ⟨by decide +kernel, rfl⟩
theorem eX2_reads_77 : Db cX2_reads 77 (fun o => .if_icmp .eq o) 84 80 := ⟨7, by decide +kernel, by decide, rfl⟩
theorem eX2_reads_80 : Dc cX2_reads 80 (.iconst 1) 1 81 := ⟨by decide +kernel, rfl⟩
theorem eX2_reads_81 : Db cX2_reads 81 (fun o => .goto o) 85 84 := ⟨4, by decide +kernel, by decide, rfl⟩
theorem eX2_reads_84 : Dc cX2_reads 84 (.iconst 0) 1 85 := ⟨by decide +kernel, rfl⟩
theorem eX2_reads_85 : Dc cX2_reads 85 (.putfield 81) 3 88 := ⟨by decide +kernel, rfl⟩
theorem eX2_reads_88 : Dc cX2_reads 88 (.aload_n 0) 1 89 := ⟨by decide +kernel, rfl⟩
theorem eX2_reads_89 : Dc cX2_reads 89 (.dup) 1 90 := ⟨by decide +kernel, rfl⟩
theorem eX2_reads_90 : Dc cX2_reads 90 (.getfield 75) 3 93 := ⟨by decide +kernel, rfl⟩
theorem eX2_reads_93 : Dc cX2_reads 93 (.aload_n 0) 1 94 := ⟨by decide +kernel, rfl⟩
theorem eX2_reads_94 : Dc cX2_reads 94 (.getfield 81) 3 97 := ⟨by decide +kernel, rfl⟩
theorem eX2_reads_97 : Db cX2_reads 97 (fun o => .ifCond .eq o) 104 100 := ⟨7, by decide +kernel, by decide, rfl⟩
theorem eX2_reads_100 : Dc cX2_reads 100 (.iconst 0) 1 101 := ⟨by decide +kernel, rfl⟩
theorem eX2_reads_101 : Db cX2_reads 101 (fun o => .goto o) 105 104 := ⟨4, by decide +kernel, by decide, rfl⟩
theorem eX2_reads_104 : Dc cX2_reads 104 (.iconst 1) 1 105 := ⟨by decide +kernel, rfl⟩
theorem eX2_reads_105 : Dc cX2_reads 105 (.iadd) 1 106 := ⟨by decide +kernel, rfl⟩
theorem eX2_reads_106 : Dc cX2_reads 106 (.putfield 75) 3 109 := ⟨by decide +kernel, rfl⟩
theorem eX2_reads_109 : Dc cX2_reads 109 (.aload_n 0) 1 110 := ⟨by decide +kernel, rfl⟩
theorem eX2_reads_110 : Dc cX2_reads 110 (.getfield 8) 3 113 := ⟨by decide +kernel, rfl⟩
theorem eX2_reads_113 : Dc cX2_reads 113 (.sipush 10990) 3 116 := ⟨by decide +kernel, rfl⟩
theorem eX2_reads_116 : Dc cX2_reads 116 (.iload_n 2) 1 117 := ⟨by decide +kernel, rfl⟩
theorem eX2_reads_117 : Dc cX2_reads 117 (.iadd) 1 118 := ⟨by decide +kernel, rfl⟩
theorem eX2_reads_118 : Dc cX2_reads 118 (.iload 4) 2 120 := ⟨by decide +kernel, rfl⟩
theorem eX2_reads_120 : Dc cX2_reads 120 (.bipush 121) 2 122 := ⟨by decide +kernel, rfl⟩
theorem eX2_reads_122 : Db cX2_reads 122 (fun o => .if_icmp .ne o) 129 125 := ⟨7, by decide +kernel, by decide, rfl⟩
theorem eX2_reads_125 : Dc cX2_reads 125 (.iconst 1) 1 126 := ⟨by decide +kernel, rfl⟩
theorem eX2_reads_126 : Db cX2_reads 126 (fun o => .goto o) 130 129 := ⟨4, by decide +kernel, by decide, rfl⟩
theorem eX2_reads_129 : Dc cX2_reads 129 (.iconst 0) 1 130 := ⟨by decide +kernel, rfl⟩
theorem eX2_reads_130 : Dc cX2_reads 130 (.iastore) 1 131 := ⟨by decide +kernel, rfl⟩
theorem eX2_reads_131 : Db cX2_reads 131 (fun o => .goto o) 174 134 := ⟨43, by decide +kernel, by decide, rfl⟩
theorem eX2_reads_134 : Dc cX2_reads 134 (.iload_n 3) 1 135 := ⟨by decide +kernel, rfl⟩
theorem eX2_reads_135 : Dc cX2_reads 135 (.bipush 6) 2 137 := ⟨by decide +kernel, rfl⟩
theorem eX2_reads_137 : Db cX2_reads 137 (fun o => .if_icmp .ne o) 160 140 := ⟨23, by decide +kernel, by decide, rfl⟩
theorem eX2_reads_140 : Dc cX2_reads 140 (.aload_n 0) 1 141 := ⟨by decide +kernel, rfl⟩
theorem eX2_reads_141 : Dc cX2_reads 141 (.invokevirtual 123) 3 144 := ⟨by decide +kernel, rfl⟩
theorem eX2_reads_144 : Dc cX2_reads 144 (.istore 4) 2 146 := ⟨by decide +kernel, rfl⟩
theorem eX2_reads_146 : Dc cX2_reads 146 (.aload_n 0) 1 147 := ⟨by decide +kernel, rfl⟩
theorem eX2_reads_147 : Dc cX2_reads 147 (.getfield 8) 3 150 := ⟨by decide +kernel, rfl⟩
theorem eX2_reads_150 : Dc cX2_reads 150 (.sipush 10990) 3 153 := ⟨by decide +kernel, rfl⟩
theorem eX2_reads_153 : Dc cX2_reads 153 (.iload_n 2) 1 154 := ⟨by decide +kernel, rfl⟩
theorem eX2_reads_154 : Dc cX2_reads 154 (.iadd) 1 155 := ⟨by decide +kernel, rfl⟩
theorem eX2_reads_155 : Dc cX2_reads 155 (.iconst 1) 1 156 := ⟨by decide +kernel, rfl⟩
theorem eX2_reads_156 : Dc cX2_reads 156 (.iastore) 1 157 := ⟨by decide +kernel, rfl⟩
theorem eX2_reads_157 : Db cX2_reads 157 (fun o => .goto o) 174 160 := ⟨17, by decide +kernel, by decide, rfl⟩
theorem eX2_reads_160 : Dc cX2_reads 160 (.aload_n 0) 1 161 := ⟨by decide +kernel, rfl⟩
theorem eX2_reads_161 : Dc cX2_reads 161 (.getfield 8) 3 164 := ⟨by decide +kernel, rfl⟩
theorem eX2_reads_164 : Dc cX2_reads 164 (.sipush 10990) 3 167 := ⟨by decide +kernel, rfl⟩
theorem eX2_reads_167 : Dc cX2_reads 167 (.iload_n 2) 1 168 := ⟨by decide +kernel, rfl⟩
theorem eX2_reads_168 : Dc cX2_reads 168 (.iadd) 1 169 := ⟨by decide +kernel, rfl⟩
theorem eX2_reads_169 : Dc cX2_reads 169 (.aload_n 0) 1 170 := ⟨by decide +kernel, rfl⟩
theorem eX2_reads_170 : Dc cX2_reads 170 (.invokevirtual 129) 3 173 := ⟨by decide +kernel, rfl⟩
theorem eX2_reads_173 : Dc cX2_reads 173 (.iastore) 1 174 := ⟨by decide +kernel, rfl⟩
theorem eX2_reads_174 : Dc cX2_reads 174 (.aload_n 0) 1 175 := ⟨by decide +kernel, rfl⟩
theorem eX2_reads_175 : Dc cX2_reads 175 (.getfield 8) 3 178 := ⟨by decide +kernel, rfl⟩
theorem eX2_reads_178 : Dc cX2_reads 178 (.sipush 10900) 3 181 := ⟨by decide +kernel, rfl⟩
theorem eX2_reads_181 : Dc cX2_reads 181 (.iload_n 1) 1 182 := ⟨by decide +kernel, rfl⟩
theorem eX2_reads_182 : Dc cX2_reads 182 (.iadd) 1 183 := ⟨by decide +kernel, rfl⟩
theorem eX2_reads_183 : Dc cX2_reads 183 (.dup2) 1 184 := ⟨by decide +kernel, rfl⟩
theorem eX2_reads_184 : Dc cX2_reads 184 (.iaload) 1 185 := ⟨by decide +kernel, rfl⟩
theorem eX2_reads_185 : Dc cX2_reads 185 (.iconst 1) 1 186 := ⟨by decide +kernel, rfl⟩
theorem eX2_reads_186 : Dc cX2_reads 186 (.iadd) 1 187 := ⟨by decide +kernel, rfl⟩
theorem eX2_reads_187 : Dc cX2_reads 187 (.iastore) 1 188 := ⟨by decide +kernel, rfl⟩
theorem eX2_reads_188 : Dc cX2_reads 188 (.return_) 1 189 := ⟨by decide +kernel, rfl⟩
theorem eX2_oneWord_0 : Dc cX2_oneWord 0 (.bipush 127) 2 2 := ⟨by decide +kernel, rfl⟩
theorem eX2_oneWord_2 : Dc cX2_oneWord 2 (.istore_n 1) 1 3 := ⟨by decide +kernel, rfl⟩
theorem eX2_oneWord_3 : Dc cX2_oneWord 3 (.iconst 0) 1 4 := ⟨by decide +kernel, rfl⟩
theorem eX2_oneWord_4 : Dc cX2_oneWord 4 (.istore_n 2) 1 5 := ⟨by decide +kernel, rfl⟩
theorem eX2_oneWord_5 : Dc cX2_oneWord 5 (.iconst 0) 1 6 := ⟨by decide +kernel, rfl⟩
theorem eX2_oneWord_6 : Dc cX2_oneWord 6 (.istore_n 3) 1 7 := ⟨by decide +kernel, rfl⟩
theorem eX2_oneWord_7 : Dc cX2_oneWord 7 (.iconst 0) 1 8 := ⟨by decide +kernel, rfl⟩
theorem eX2_oneWord_8 : Dc cX2_oneWord 8 (.istore 4) 2 10 := ⟨by decide +kernel, rfl⟩
theorem eX2_oneWord_10 : Dc cX2_oneWord 10 (.iload 4) 2 12 := ⟨by decide +kernel, rfl⟩
theorem eX2_oneWord_12 : Dc cX2_oneWord 12 (.bipush 7) 2 14 := ⟨by decide +kernel, rfl⟩
theorem eX2_oneWord_14 : Db cX2_oneWord 14 (fun o => .if_icmp .ge o) 72 17 := ⟨58, by decide +kernel, by decide, rfl⟩
theorem eX2_oneWord_17 : Dc cX2_oneWord 17 (.iload_n 3) 1 18 := ⟨by decide +kernel, rfl⟩
theorem eX2_oneWord_18 : Dc cX2_oneWord 18 (.iload_n 1) 1 19 := ⟨by decide +kernel, rfl⟩
theorem eX2_oneWord_19 : Dc cX2_oneWord 19 (.iload 4) 2 21 := ⟨by decide +kernel, rfl⟩
theorem eX2_oneWord_21 : Dc cX2_oneWord 21 (.ishr) 1 22 := ⟨by decide +kernel, rfl⟩
theorem eX2_oneWord_22 : Dc cX2_oneWord 22 (.iconst 1) 1 23 := ⟨by decide +kernel, rfl⟩
theorem eX2_oneWord_23 : Dc cX2_oneWord 23 (.iand) 1 24 := ⟨by decide +kernel, rfl⟩
theorem eX2_oneWord_24 : Dc cX2_oneWord 24 (.iconst 1) 1 25 := ⟨by decide +kernel, rfl⟩
theorem eX2_oneWord_25 : Db cX2_oneWord 25 (fun o => .if_icmp .ne o) 63 28 := ⟨38, by decide +kernel, by decide, rfl⟩
theorem eX2_oneWord_28 : Dc cX2_oneWord 28 (.iload_n 2) 1 29 := ⟨by decide +kernel, rfl⟩
theorem eX2_oneWord_29 : Dc cX2_oneWord 29 (.iload 4) 2 31 := ⟨by decide +kernel, rfl⟩
theorem eX2_oneWord_31 : Dc cX2_oneWord 31 (.invokestatic 103) 3 34 := ⟨by decide +kernel, rfl⟩
theorem eX2_oneWord_34 : Dc cX2_oneWord 34 (.invokevirtual 107) 3 37 := ⟨by decide +kernel, rfl⟩
theorem eX2_oneWord_37 : Db cX2_oneWord 37 (fun o => .if_icmp .ge o) 63 40 := ⟨26, by decide +kernel, by decide, rfl⟩
theorem eX2_oneWord_40 : Dc cX2_oneWord 40 (.iload 4) 2 42 := ⟨by decide +kernel, rfl⟩
theorem eX2_oneWord_42 : Dc cX2_oneWord 42 (.invokestatic 103) 3 45 := ⟨by decide +kernel, rfl⟩
theorem eX2_oneWord_45 : Dc cX2_oneWord 45 (.iload_n 2) 1 46 := ⟨by decide +kernel, rfl⟩
theorem eX2_oneWord_46 : Dc cX2_oneWord 46 (.invokevirtual 112) 3 49 := ⟨by decide +kernel, rfl⟩
theorem eX2_oneWord_49 : Dc cX2_oneWord 49 (.aload_n 0) 1 50 := ⟨by decide +kernel, rfl⟩
theorem eX2_oneWord_50 : Dc cX2_oneWord 50 (.invokevirtual 85) 3 53 := ⟨by decide +kernel, rfl⟩
theorem eX2_oneWord_53 : Db cX2_oneWord 53 (fun o => .if_icmp .ne o) 63 56 := ⟨10, by decide +kernel, by decide, rfl⟩
theorem eX2_oneWord_56 : Dc cX2_oneWord 56 (.iconst 1) 1 57 := ⟨by decide +kernel, rfl⟩
theorem eX2_oneWord_57 : Dc cX2_oneWord 57 (.iload 4) 2 59 := ⟨by decide +kernel, rfl⟩
theorem eX2_oneWord_59 : Dc cX2_oneWord 59 (.ishl) 1 60 := ⟨by decide +kernel, rfl⟩
theorem eX2_oneWord_60 : Db cX2_oneWord 60 (fun o => .goto o) 64 63 := ⟨4, by decide +kernel, by decide, rfl⟩
theorem eX2_oneWord_63 : Dc cX2_oneWord 63 (.iconst 0) 1 64 := ⟨by decide +kernel, rfl⟩
theorem eX2_oneWord_64 : Dc cX2_oneWord 64 (.ior) 1 65 := ⟨by decide +kernel, rfl⟩
theorem eX2_oneWord_65 : Dc cX2_oneWord 65 (.istore_n 3) 1 66 := ⟨by decide +kernel, rfl⟩
theorem eX2_oneWord_66 : Dc cX2_oneWord 66 (.iinc 4 1) 3 69 := ⟨by decide +kernel, rfl⟩
theorem eX2_oneWord_69 : Db cX2_oneWord 69 (fun o => .goto o) 10 72 := ⟨-59, by decide +kernel, by decide, rfl⟩
theorem eX2_oneWord_72 : Dc cX2_oneWord 72 (.iload_n 3) 1 73 := ⟨by decide +kernel, rfl⟩
theorem eX2_oneWord_73 : Db cX2_oneWord 73 (fun o => .ifCond .ne o) 83 76 := ⟨10, by decide +kernel, by decide, rfl⟩
theorem eX2_oneWord_76 : Dc cX2_oneWord 76 (.aload_n 0) 1 77 := ⟨by decide +kernel, rfl⟩
theorem eX2_oneWord_77 : Dc cX2_oneWord 77 (.iconst 1) 1 78 := ⟨by decide +kernel, rfl⟩
theorem eX2_oneWord_78 : Dc cX2_oneWord 78 (.putfield 81) 3 81 := ⟨by decide +kernel, rfl⟩
theorem eX2_oneWord_81 : Dc cX2_oneWord 81 (.iconst 0) 1 82 := ⟨by decide +kernel, rfl⟩
theorem eX2_oneWord_82 : Dc cX2_oneWord 82 (.ireturn) 1 83 := ⟨by decide +kernel, rfl⟩
theorem eX2_oneWord_83 : Dc cX2_oneWord 83 (.iload_n 3) 1 84 := ⟨by decide +kernel, rfl⟩
theorem eX2_oneWord_84 : Dc cX2_oneWord 84 (.istore_n 1) 1 85 := ⟨by decide +kernel, rfl⟩
theorem eX2_oneWord_85 : Dc cX2_oneWord 85 (.aload_n 0) 1 86 := ⟨by decide +kernel, rfl⟩
theorem eX2_oneWord_86 : Dc cX2_oneWord 86 (.dup) 1 87 := ⟨by decide +kernel, rfl⟩
theorem eX2_oneWord_87 : Dc cX2_oneWord 87 (.getfield 75) 3 90 := ⟨by decide +kernel, rfl⟩
theorem eX2_oneWord_90 : Dc cX2_oneWord 90 (.iconst 1) 1 91 := ⟨by decide +kernel, rfl⟩
theorem eX2_oneWord_91 : Dc cX2_oneWord 91 (.iadd) 1 92 := ⟨by decide +kernel, rfl⟩
theorem eX2_oneWord_92 : Dc cX2_oneWord 92 (.putfield 75) 3 95 := ⟨by decide +kernel, rfl⟩
theorem eX2_oneWord_95 : Dc cX2_oneWord 95 (.iinc 2 1) 3 98 := ⟨by decide +kernel, rfl⟩
theorem eX2_oneWord_98 : Dc cX2_oneWord 98 (.iconst 0) 1 99 := ⟨by decide +kernel, rfl⟩
theorem eX2_oneWord_99 : Dc cX2_oneWord 99 (.istore 4) 2 101 := ⟨by decide +kernel, rfl⟩
theorem eX2_oneWord_101 : Dc cX2_oneWord 101 (.iload 4) 2 103 := ⟨by decide +kernel, rfl⟩
theorem eX2_oneWord_103 : Dc cX2_oneWord 103 (.bipush 7) 2 105 := ⟨by decide +kernel, rfl⟩
theorem eX2_oneWord_105 : Db cX2_oneWord 105 (fun o => .if_icmp .ge o) 137 108 := ⟨32, by decide +kernel, by decide, rfl⟩
theorem eX2_oneWord_108 : Dc cX2_oneWord 108 (.iload_n 1) 1 109 := ⟨by decide +kernel, rfl⟩
theorem eX2_oneWord_109 : Dc cX2_oneWord 109 (.iconst 1) 1 110 := ⟨by decide +kernel, rfl⟩
theorem eX2_oneWord_110 : Dc cX2_oneWord 110 (.iload 4) 2 112 := ⟨by decide +kernel, rfl⟩
theorem eX2_oneWord_112 : Dc cX2_oneWord 112 (.ishl) 1 113 := ⟨by decide +kernel, rfl⟩
theorem eX2_oneWord_113 : Db cX2_oneWord 113 (fun o => .if_icmp .ne o) 131 116 := ⟨18, by decide +kernel, by decide, rfl⟩
theorem eX2_oneWord_116 : Dc cX2_oneWord 116 (.iload 4) 2 118 := ⟨by decide +kernel, rfl⟩
theorem eX2_oneWord_118 : Dc cX2_oneWord 118 (.invokestatic 103) 3 121 := ⟨by decide +kernel, rfl⟩
theorem eX2_oneWord_121 : Dc cX2_oneWord 121 (.invokevirtual 107) 3 124 := ⟨by decide +kernel, rfl⟩
theorem eX2_oneWord_124 : Dc cX2_oneWord 124 (.iload_n 2) 1 125 := ⟨by decide +kernel, rfl⟩
theorem eX2_oneWord_125 : Db cX2_oneWord 125 (fun o => .if_icmp .ne o) 131 128 := ⟨6, by decide +kernel, by decide, rfl⟩
theorem eX2_oneWord_128 : Dc cX2_oneWord 128 (.iload 4) 2 130 := ⟨by decide +kernel, rfl⟩
theorem eX2_oneWord_130 : Dc cX2_oneWord 130 (.ireturn) 1 131 := ⟨by decide +kernel, rfl⟩
theorem eX2_oneWord_131 : Dc cX2_oneWord 131 (.iinc 4 1) 3 134 := ⟨by decide +kernel, rfl⟩
theorem eX2_oneWord_134 : Db cX2_oneWord 134 (fun o => .goto o) 101 137 := ⟨-33, by decide +kernel, by decide, rfl⟩
theorem eX2_oneWord_137 : Db cX2_oneWord 137 (fun o => .goto o) 5 140 := ⟨-132, by decide +kernel, by decide, rfl⟩
theorem eX2_word_0 : Dc cX2_word 0 (.iload_n 0) 1 1 := ⟨by decide +kernel, rfl⟩
theorem eX2_word_1 : Dt cX2_word 1 (0) [40, 43, 46, 49, 52, 55] 58 := ⟨57, 5, #[39, 42, 45, 48, 51, 54], 39, by decide +kernel, by decide, by decide, by decide⟩
theorem eX2_word_40 : Dc cX2_word 40 (.ldc 89) 2 42 := ⟨by decide +kernel, rfl⟩
theorem eX2_word_42 : Dc cX2_word 42 (.areturn) 1 43 := ⟨by decide +kernel, rfl⟩
theorem eX2_word_43 : Dc cX2_word 43 (.ldc 91) 2 45 := ⟨by decide +kernel, rfl⟩
theorem eX2_word_45 : Dc cX2_word 45 (.areturn) 1 46 := ⟨by decide +kernel, rfl⟩
theorem eX2_word_46 : Dc cX2_word 46 (.ldc 93) 2 48 := ⟨by decide +kernel, rfl⟩
theorem eX2_word_48 : Dc cX2_word 48 (.areturn) 1 49 := ⟨by decide +kernel, rfl⟩
theorem eX2_word_49 : Dc cX2_word 49 (.ldc 95) 2 51 := ⟨by decide +kernel, rfl⟩
theorem eX2_word_51 : Dc cX2_word 51 (.areturn) 1 52 := ⟨by decide +kernel, rfl⟩
theorem eX2_word_52 : Dc cX2_word 52 (.ldc 97) 2 54 := ⟨by decide +kernel, rfl⟩
theorem eX2_word_54 : Dc cX2_word 54 (.areturn) 1 55 := ⟨by decide +kernel, rfl⟩
theorem eX2_word_55 : Dc cX2_word 55 (.ldc 99) 2 57 := ⟨by decide +kernel, rfl⟩
theorem eX2_word_57 : Dc cX2_word 57 (.areturn) 1 58 := ⟨by decide +kernel, rfl⟩
theorem eX2_word_58 : Dc cX2_word 58 (.ldc 101) 2 60 := ⟨by decide +kernel, rfl⟩
theorem eX2_word_60 : Dc cX2_word 60 (.areturn) 1 61 := ⟨by decide +kernel, rfl⟩
theorem eX2_here_0 : Dc cX2_here 0 (.aload_n 0) 1 1 := ⟨by decide +kernel, rfl⟩
theorem eX2_here_1 : Dc cX2_here 1 (.getfield 75) 3 4 := ⟨by decide +kernel, rfl⟩
theorem eX2_here_4 : Dc cX2_here 4 (.aload_n 0) 1 5 := ⟨by decide +kernel, rfl⟩
theorem eX2_here_5 : Dc cX2_here 5 (.getfield 8) 3 8 := ⟨by decide +kernel, rfl⟩
theorem eX2_here_8 : Dc cX2_here 8 (.sipush 9630) 3 11 := ⟨by decide +kernel, rfl⟩
theorem eX2_here_11 : Dc cX2_here 11 (.aload_n 0) 1 12 := ⟨by decide +kernel, rfl⟩
theorem eX2_here_12 : Dc cX2_here 12 (.getfield 78) 3 15 := ⟨by decide +kernel, rfl⟩
theorem eX2_here_15 : Dc cX2_here 15 (.iadd) 1 16 := ⟨by decide +kernel, rfl⟩
theorem eX2_here_16 : Dc cX2_here 16 (.iaload) 1 17 := ⟨by decide +kernel, rfl⟩
theorem eX2_here_17 : Db cX2_here 17 (fun o => .if_icmp .ge o) 45 20 := ⟨28, by decide +kernel, by decide, rfl⟩
theorem eX2_here_20 : Dc cX2_here 20 (.aload_n 0) 1 21 := ⟨by decide +kernel, rfl⟩
theorem eX2_here_21 : Dc cX2_here 21 (.getfield 8) 3 24 := ⟨by decide +kernel, rfl⟩
theorem eX2_here_24 : Dc cX2_here 24 (.sipush 9640) 3 27 := ⟨by decide +kernel, rfl⟩
theorem eX2_here_27 : Dc cX2_here 27 (.sipush 140) 3 30 := ⟨by decide +kernel, rfl⟩
theorem eX2_here_30 : Dc cX2_here 30 (.aload_n 0) 1 31 := ⟨by decide +kernel, rfl⟩
theorem eX2_here_31 : Dc cX2_here 31 (.getfield 78) 3 34 := ⟨by decide +kernel, rfl⟩
theorem eX2_here_34 : Dc cX2_here 34 (.imul) 1 35 := ⟨by decide +kernel, rfl⟩
theorem eX2_here_35 : Dc cX2_here 35 (.iadd) 1 36 := ⟨by decide +kernel, rfl⟩
theorem eX2_here_36 : Dc cX2_here 36 (.aload_n 0) 1 37 := ⟨by decide +kernel, rfl⟩
theorem eX2_here_37 : Dc cX2_here 37 (.getfield 75) 3 40 := ⟨by decide +kernel, rfl⟩
theorem eX2_here_40 : Dc cX2_here 40 (.iadd) 1 41 := ⟨by decide +kernel, rfl⟩
theorem eX2_here_41 : Dc cX2_here 41 (.iaload) 1 42 := ⟨by decide +kernel, rfl⟩
theorem eX2_here_42 : Db cX2_here 42 (fun o => .goto o) 46 45 := ⟨4, by decide +kernel, by decide, rfl⟩
theorem eX2_here_45 : Dc cX2_here 45 (.iconst (-1)) 1 46 := ⟨by decide +kernel, rfl⟩
theorem eX2_here_46 : Dc cX2_here 46 (.ireturn) 1 47 := ⟨by decide +kernel, rfl⟩
theorem eX2_some_0 : Dc cX2_some 0 (.aload_n 0) 1 1 := ⟨by decide +kernel, rfl⟩
theorem eX2_some_1 : Dc cX2_some 1 (.invokevirtual 132) 3 4 := ⟨by decide +kernel, rfl⟩
theorem eX2_some_4 : Dc cX2_some 4 (.istore_n 1) 1 5 := ⟨by decide +kernel, rfl⟩
theorem eX2_some_5 : Dc cX2_some 5 (.aload_n 0) 1 6 := ⟨by decide +kernel, rfl⟩
theorem eX2_some_6 : Dc cX2_some 6 (.getfield 81) 3 9 := ⟨by decide +kernel, rfl⟩
theorem eX2_some_9 : Db cX2_some 9 (fun o => .ifCond .ne o) 53 12 := ⟨44, by decide +kernel, by decide, rfl⟩
theorem eX2_some_12 : Dc cX2_some 12 (.aload_n 0) 1 13 := ⟨by decide +kernel, rfl⟩
theorem eX2_some_13 : Dc cX2_some 13 (.invokevirtual 85) 3 16 := ⟨by decide +kernel, rfl⟩
theorem eX2_some_16 : Dc cX2_some 16 (.bipush 124) 2 18 := ⟨by decide +kernel, rfl⟩
theorem eX2_some_18 : Db cX2_some 18 (fun o => .if_icmp .ne o) 53 21 := ⟨35, by decide +kernel, by decide, rfl⟩
theorem eX2_some_21 : Dc cX2_some 21 (.aload_n 0) 1 22 := ⟨by decide +kernel, rfl⟩
theorem eX2_some_22 : Dc cX2_some 22 (.dup) 1 23 := ⟨by decide +kernel, rfl⟩
theorem eX2_some_23 : Dc cX2_some 23 (.getfield 75) 3 26 := ⟨by decide +kernel, rfl⟩
theorem eX2_some_26 : Dc cX2_some 26 (.iconst 1) 1 27 := ⟨by decide +kernel, rfl⟩
theorem eX2_some_27 : Dc cX2_some 27 (.iadd) 1 28 := ⟨by decide +kernel, rfl⟩
theorem eX2_some_28 : Dc cX2_some 28 (.putfield 75) 3 31 := ⟨by decide +kernel, rfl⟩
theorem eX2_some_31 : Dc cX2_some 31 (.aload_n 0) 1 32 := ⟨by decide +kernel, rfl⟩
theorem eX2_some_32 : Dc cX2_some 32 (.invokevirtual 132) 3 35 := ⟨by decide +kernel, rfl⟩
theorem eX2_some_35 : Dc cX2_some 35 (.istore_n 2) 1 36 := ⟨by decide +kernel, rfl⟩
theorem eX2_some_36 : Dc cX2_some 36 (.iload_n 1) 1 37 := ⟨by decide +kernel, rfl⟩
theorem eX2_some_37 : Db cX2_some 37 (fun o => .ifCond .ne o) 44 40 := ⟨7, by decide +kernel, by decide, rfl⟩
theorem eX2_some_40 : Dc cX2_some 40 (.iload_n 2) 1 41 := ⟨by decide +kernel, rfl⟩
theorem eX2_some_41 : Db cX2_some 41 (fun o => .ifCond .eq o) 48 44 := ⟨7, by decide +kernel, by decide, rfl⟩
theorem eX2_some_44 : Dc cX2_some 44 (.iconst 1) 1 45 := ⟨by decide +kernel, rfl⟩
theorem eX2_some_45 : Db cX2_some 45 (fun o => .goto o) 49 48 := ⟨4, by decide +kernel, by decide, rfl⟩
theorem eX2_some_48 : Dc cX2_some 48 (.iconst 0) 1 49 := ⟨by decide +kernel, rfl⟩
theorem eX2_some_49 : Dc cX2_some 49 (.istore_n 1) 1 50 := ⟨by decide +kernel, rfl⟩
theorem eX2_some_50 : Db cX2_some 50 (fun o => .goto o) 5 53 := ⟨-45, by decide +kernel, by decide, rfl⟩
theorem eX2_some_53 : Dc cX2_some 53 (.iload_n 1) 1 54 := ⟨by decide +kernel, rfl⟩
theorem eX2_some_54 : Dc cX2_some 54 (.ireturn) 1 55 := ⟨by decide +kernel, rfl⟩
theorem eX2_every_0 : Dc cX2_every 0 (.aload_n 0) 1 1 := ⟨by decide +kernel, rfl⟩
theorem eX2_every_1 : Dc cX2_every 1 (.invokevirtual 119) 3 4 := ⟨by decide +kernel, rfl⟩
theorem eX2_every_4 : Dc cX2_every 4 (.istore_n 1) 1 5 := ⟨by decide +kernel, rfl⟩
theorem eX2_every_5 : Dc cX2_every 5 (.aload_n 0) 1 6 := ⟨by decide +kernel, rfl⟩
theorem eX2_every_6 : Dc cX2_every 6 (.getfield 81) 3 9 := ⟨by decide +kernel, rfl⟩
theorem eX2_every_9 : Db cX2_every 9 (fun o => .ifCond .ne o) 53 12 := ⟨44, by decide +kernel, by decide, rfl⟩
theorem eX2_every_12 : Dc cX2_every 12 (.aload_n 0) 1 13 := ⟨by decide +kernel, rfl⟩
theorem eX2_every_13 : Dc cX2_every 13 (.invokevirtual 85) 3 16 := ⟨by decide +kernel, rfl⟩
theorem eX2_every_16 : Dc cX2_every 16 (.bipush 38) 2 18 := ⟨by decide +kernel, rfl⟩
theorem eX2_every_18 : Db cX2_every 18 (fun o => .if_icmp .ne o) 53 21 := ⟨35, by decide +kernel, by decide, rfl⟩
theorem eX2_every_21 : Dc cX2_every 21 (.aload_n 0) 1 22 := ⟨by decide +kernel, rfl⟩
theorem eX2_every_22 : Dc cX2_every 22 (.dup) 1 23 := ⟨by decide +kernel, rfl⟩
theorem eX2_every_23 : Dc cX2_every 23 (.getfield 75) 3 26 := ⟨by decide +kernel, rfl⟩
theorem eX2_every_26 : Dc cX2_every 26 (.iconst 1) 1 27 := ⟨by decide +kernel, rfl⟩
theorem eX2_every_27 : Dc cX2_every 27 (.iadd) 1 28 := ⟨by decide +kernel, rfl⟩
theorem eX2_every_28 : Dc cX2_every 28 (.putfield 75) 3 31 := ⟨by decide +kernel, rfl⟩
theorem eX2_every_31 : Dc cX2_every 31 (.aload_n 0) 1 32 := ⟨by decide +kernel, rfl⟩
theorem eX2_every_32 : Dc cX2_every 32 (.invokevirtual 119) 3 35 := ⟨by decide +kernel, rfl⟩
theorem eX2_every_35 : Dc cX2_every 35 (.istore_n 2) 1 36 := ⟨by decide +kernel, rfl⟩
theorem eX2_every_36 : Dc cX2_every 36 (.iload_n 1) 1 37 := ⟨by decide +kernel, rfl⟩
theorem eX2_every_37 : Db cX2_every 37 (fun o => .ifCond .eq o) 48 40 := ⟨11, by decide +kernel, by decide, rfl⟩
theorem eX2_every_40 : Dc cX2_every 40 (.iload_n 2) 1 41 := ⟨by decide +kernel, rfl⟩
theorem eX2_every_41 : Db cX2_every 41 (fun o => .ifCond .eq o) 48 44 := ⟨7, by decide +kernel, by decide, rfl⟩
theorem eX2_every_44 : Dc cX2_every 44 (.iconst 1) 1 45 := ⟨by decide +kernel, rfl⟩
theorem eX2_every_45 : Db cX2_every 45 (fun o => .goto o) 49 48 := ⟨4, by decide +kernel, by decide, rfl⟩
theorem eX2_every_48 : Dc cX2_every 48 (.iconst 0) 1 49 := ⟨by decide +kernel, rfl⟩
theorem eX2_every_49 : Dc cX2_every 49 (.istore_n 1) 1 50 := ⟨by decide +kernel, rfl⟩
theorem eX2_every_50 : Db cX2_every 50 (fun o => .goto o) 5 53 := ⟨-45, by decide +kernel, by decide, rfl⟩
theorem eX2_every_53 : Dc cX2_every 53 (.iload_n 1) 1 54 := ⟨by decide +kernel, rfl⟩
theorem eX2_every_54 : Dc cX2_every 54 (.ireturn) 1 55 := ⟨by decide +kernel, rfl⟩
theorem eX2_factor_0 : Dc cX2_factor 0 (.aload_n 0) 1 1 := ⟨by decide +kernel, rfl⟩
theorem eX2_factor_1 : Dc cX2_factor 1 (.getfield 81) 3 4 := ⟨by decide +kernel, rfl⟩
theorem eX2_factor_4 : Db cX2_factor 4 (fun o => .ifCond .eq o) 9 7 := ⟨5, by decide +kernel, by decide, rfl⟩
theorem eX2_factor_7 : Dc cX2_factor 7 (.iconst 0) 1 8 := ⟨by decide +kernel, rfl⟩
theorem eX2_factor_8 : Dc cX2_factor 8 (.ireturn) 1 9 := ⟨by decide +kernel, rfl⟩
theorem eX2_factor_9 : Dc cX2_factor 9 (.aload_n 0) 1 10 := ⟨by decide +kernel, rfl⟩
theorem eX2_factor_10 : Dc cX2_factor 10 (.invokevirtual 85) 3 13 := ⟨by decide +kernel, rfl⟩
theorem eX2_factor_13 : Dc cX2_factor 13 (.istore_n 1) 1 14 := ⟨by decide +kernel, rfl⟩
theorem eX2_factor_14 : Dc cX2_factor 14 (.iload_n 1) 1 15 := ⟨by decide +kernel, rfl⟩
theorem eX2_factor_15 : Dc cX2_factor 15 (.bipush 33) 2 17 := ⟨by decide +kernel, rfl⟩
theorem eX2_factor_17 : Db cX2_factor 17 (fun o => .if_icmp .eq o) 26 20 := ⟨9, by decide +kernel, by decide, rfl⟩
theorem eX2_factor_20 : Dc cX2_factor 20 (.iload_n 1) 1 21 := ⟨by decide +kernel, rfl⟩
theorem eX2_factor_21 : Dc cX2_factor 21 (.bipush 40) 2 23 := ⟨by decide +kernel, rfl⟩
theorem eX2_factor_23 : Db cX2_factor 23 (fun o => .if_icmp .ne o) 135 26 := ⟨112, by decide +kernel, by decide, rfl⟩
theorem eX2_factor_26 : Dc cX2_factor 26 (.aload_n 0) 1 27 := ⟨by decide +kernel, rfl⟩
theorem eX2_factor_27 : Dc cX2_factor 27 (.aload_n 0) 1 28 := ⟨by decide +kernel, rfl⟩
theorem eX2_factor_28 : Dc cX2_factor 28 (.getfield 116) 3 31 := ⟨by decide +kernel, rfl⟩
theorem eX2_factor_31 : Dc cX2_factor 31 (.iconst 5) 1 32 := ⟨by decide +kernel, rfl⟩
theorem eX2_factor_32 : Db cX2_factor 32 (fun o => .if_icmp .ne o) 39 35 := ⟨7, by decide +kernel, by decide, rfl⟩
theorem eX2_factor_35 : Dc cX2_factor 35 (.iconst 1) 1 36 := ⟨by decide +kernel, rfl⟩
theorem eX2_factor_36 : Db cX2_factor 36 (fun o => .goto o) 40 39 := ⟨4, by decide +kernel, by decide, rfl⟩
theorem eX2_factor_39 : Dc cX2_factor 39 (.iconst 0) 1 40 := ⟨by decide +kernel, rfl⟩
theorem eX2_factor_40 : Dc cX2_factor 40 (.putfield 81) 3 43 := ⟨by decide +kernel, rfl⟩
theorem eX2_factor_43 : Dc cX2_factor 43 (.aload_n 0) 1 44 := ⟨by decide +kernel, rfl⟩
theorem eX2_factor_44 : Dc cX2_factor 44 (.dup) 1 45 := ⟨by decide +kernel, rfl⟩
theorem eX2_factor_45 : Dc cX2_factor 45 (.getfield 116) 3 48 := ⟨by decide +kernel, rfl⟩
theorem eX2_factor_48 : Dc cX2_factor 48 (.iconst 1) 1 49 := ⟨by decide +kernel, rfl⟩
theorem eX2_factor_49 : Dc cX2_factor 49 (.iadd) 1 50 := ⟨by decide +kernel, rfl⟩
theorem eX2_factor_50 : Dc cX2_factor 50 (.putfield 116) 3 53 := ⟨by decide +kernel, rfl⟩
theorem eX2_factor_53 : Dc cX2_factor 53 (.aload_n 0) 1 54 := ⟨by decide +kernel, rfl⟩
theorem eX2_factor_54 : Dc cX2_factor 54 (.dup) 1 55 := ⟨by decide +kernel, rfl⟩
theorem eX2_factor_55 : Dc cX2_factor 55 (.getfield 75) 3 58 := ⟨by decide +kernel, rfl⟩
theorem eX2_factor_58 : Dc cX2_factor 58 (.aload_n 0) 1 59 := ⟨by decide +kernel, rfl⟩
theorem eX2_factor_59 : Dc cX2_factor 59 (.getfield 81) 3 62 := ⟨by decide +kernel, rfl⟩
theorem eX2_factor_62 : Db cX2_factor 62 (fun o => .ifCond .eq o) 69 65 := ⟨7, by decide +kernel, by decide, rfl⟩
theorem eX2_factor_65 : Dc cX2_factor 65 (.iconst 0) 1 66 := ⟨by decide +kernel, rfl⟩
theorem eX2_factor_66 : Db cX2_factor 66 (fun o => .goto o) 70 69 := ⟨4, by decide +kernel, by decide, rfl⟩
theorem eX2_factor_69 : Dc cX2_factor 69 (.iconst 1) 1 70 := ⟨by decide +kernel, rfl⟩
theorem eX2_factor_70 : Dc cX2_factor 70 (.iadd) 1 71 := ⟨by decide +kernel, rfl⟩
theorem eX2_factor_71 : Dc cX2_factor 71 (.putfield 75) 3 74 := ⟨by decide +kernel, rfl⟩
theorem eX2_factor_74 : Dc cX2_factor 74 (.aload_n 0) 1 75 := ⟨by decide +kernel, rfl⟩
theorem eX2_factor_75 : Dc cX2_factor 75 (.getfield 81) 3 78 := ⟨by decide +kernel, rfl⟩
theorem eX2_factor_78 : Db cX2_factor 78 (fun o => .ifCond .eq o) 85 81 := ⟨7, by decide +kernel, by decide, rfl⟩
theorem eX2_factor_81 : Dc cX2_factor 81 (.iconst 0) 1 82 := ⟨by decide +kernel, rfl⟩
theorem eX2_factor_82 : Db cX2_factor 82 (fun o => .goto o) 110 85 := ⟨28, by decide +kernel, by decide, rfl⟩
theorem eX2_factor_85 : Dc cX2_factor 85 (.iload_n 1) 1 86 := ⟨by decide +kernel, rfl⟩
theorem eX2_factor_86 : Dc cX2_factor 86 (.bipush 33) 2 88 := ⟨by decide +kernel, rfl⟩
theorem eX2_factor_88 : Db cX2_factor 88 (fun o => .if_icmp .ne o) 106 91 := ⟨18, by decide +kernel, by decide, rfl⟩
theorem eX2_factor_91 : Dc cX2_factor 91 (.aload_n 0) 1 92 := ⟨by decide +kernel, rfl⟩
theorem eX2_factor_92 : Dc cX2_factor 92 (.invokevirtual 119) 3 95 := ⟨by decide +kernel, rfl⟩
theorem eX2_factor_95 : Db cX2_factor 95 (fun o => .ifCond .ne o) 102 98 := ⟨7, by decide +kernel, by decide, rfl⟩
theorem eX2_factor_98 : Dc cX2_factor 98 (.iconst 1) 1 99 := ⟨by decide +kernel, rfl⟩
theorem eX2_factor_99 : Db cX2_factor 99 (fun o => .goto o) 110 102 := ⟨11, by decide +kernel, by decide, rfl⟩
theorem eX2_factor_102 : Dc cX2_factor 102 (.iconst 0) 1 103 := ⟨by decide +kernel, rfl⟩
theorem eX2_factor_103 : Db cX2_factor 103 (fun o => .goto o) 110 106 := ⟨7, by decide +kernel, by decide, rfl⟩
theorem eX2_factor_106 : Dc cX2_factor 106 (.aload_n 0) 1 107 := ⟨by decide +kernel, rfl⟩
theorem eX2_factor_107 : Dc cX2_factor 107 (.invokevirtual 123) 3 110 := ⟨by decide +kernel, rfl⟩
theorem eX2_factor_110 : Dc cX2_factor 110 (.istore_n 2) 1 111 := ⟨by decide +kernel, rfl⟩
theorem eX2_factor_111 : Dc cX2_factor 111 (.iload_n 1) 1 112 := ⟨by decide +kernel, rfl⟩
theorem eX2_factor_112 : Dc cX2_factor 112 (.bipush 40) 2 114 := ⟨by decide +kernel, rfl⟩
theorem eX2_factor_114 : Db cX2_factor 114 (fun o => .if_icmp .ne o) 123 117 := ⟨9, by decide +kernel, by decide, rfl⟩
theorem eX2_factor_117 : Dc cX2_factor 117 (.aload_n 0) 1 118 := ⟨by decide +kernel, rfl⟩
theorem eX2_factor_118 : Dc cX2_factor 118 (.bipush 41) 2 120 := ⟨by decide +kernel, rfl⟩
theorem eX2_factor_120 : Dc cX2_factor 120 (.invokevirtual 125) 3 123 := ⟨by decide +kernel, rfl⟩
theorem eX2_factor_123 : Dc cX2_factor 123 (.aload_n 0) 1 124 := ⟨by decide +kernel, rfl⟩
theorem eX2_factor_124 : Dc cX2_factor 124 (.dup) 1 125 := ⟨by decide +kernel, rfl⟩
theorem eX2_factor_125 : Dc cX2_factor 125 (.getfield 116) 3 128 := ⟨by decide +kernel, rfl⟩
theorem eX2_factor_128 : Dc cX2_factor 128 (.iconst 1) 1 129 := ⟨by decide +kernel, rfl⟩
theorem eX2_factor_129 : Dc cX2_factor 129 (.isub) 1 130 := ⟨by decide +kernel, rfl⟩
theorem eX2_factor_130 : Dc cX2_factor 130 (.putfield 116) 3 133 := ⟨by decide +kernel, rfl⟩
theorem eX2_factor_133 : Dc cX2_factor 133 (.iload_n 2) 1 134 := ⟨by decide +kernel, rfl⟩
theorem eX2_factor_134 : Dc cX2_factor 134 (.ireturn) 1 135 := ⟨by decide +kernel, rfl⟩
theorem eX2_factor_135 : Dc cX2_factor 135 (.iload_n 1) 1 136 := ⟨by decide +kernel, rfl⟩
theorem eX2_factor_136 : Dc cX2_factor 136 (.bipush 103) 2 138 := ⟨by decide +kernel, rfl⟩
theorem eX2_factor_138 : Db cX2_factor 138 (fun o => .if_icmp .ne o) 227 141 := ⟨89, by decide +kernel, by decide, rfl⟩
theorem eX2_factor_141 : Dc cX2_factor 141 (.aload_n 0) 1 142 := ⟨by decide +kernel, rfl⟩
theorem eX2_factor_142 : Dc cX2_factor 142 (.dup) 1 143 := ⟨by decide +kernel, rfl⟩
theorem eX2_factor_143 : Dc cX2_factor 143 (.getfield 75) 3 146 := ⟨by decide +kernel, rfl⟩
theorem eX2_factor_146 : Dc cX2_factor 146 (.iconst 1) 1 147 := ⟨by decide +kernel, rfl⟩
theorem eX2_factor_147 : Dc cX2_factor 147 (.iadd) 1 148 := ⟨by decide +kernel, rfl⟩
theorem eX2_factor_148 : Dc cX2_factor 148 (.putfield 75) 3 151 := ⟨by decide +kernel, rfl⟩
theorem eX2_factor_151 : Dc cX2_factor 151 (.aload_n 0) 1 152 := ⟨by decide +kernel, rfl⟩
theorem eX2_factor_152 : Dc cX2_factor 152 (.bipush 61) 2 154 := ⟨by decide +kernel, rfl⟩
theorem eX2_factor_154 : Dc cX2_factor 154 (.invokevirtual 125) 3 157 := ⟨by decide +kernel, rfl⟩
theorem eX2_factor_157 : Dc cX2_factor 157 (.aload_n 0) 1 158 := ⟨by decide +kernel, rfl⟩
theorem eX2_factor_158 : Dc cX2_factor 158 (.invokevirtual 85) 3 161 := ⟨by decide +kernel, rfl⟩
theorem eX2_factor_161 : Dc cX2_factor 161 (.bipush 48) 2 163 := ⟨by decide +kernel, rfl⟩
theorem eX2_factor_163 : Dc cX2_factor 163 (.isub) 1 164 := ⟨by decide +kernel, rfl⟩
theorem eX2_factor_164 : Dc cX2_factor 164 (.istore_n 2) 1 165 := ⟨by decide +kernel, rfl⟩
theorem eX2_factor_165 : Dc cX2_factor 165 (.aload_n 0) 1 166 := ⟨by decide +kernel, rfl⟩
theorem eX2_factor_166 : Dc cX2_factor 166 (.aload_n 0) 1 167 := ⟨by decide +kernel, rfl⟩
theorem eX2_factor_167 : Dc cX2_factor 167 (.getfield 81) 3 170 := ⟨by decide +kernel, rfl⟩
theorem eX2_factor_170 : Db cX2_factor 170 (fun o => .ifCond .ne o) 182 173 := ⟨12, by decide +kernel, by decide, rfl⟩
theorem eX2_factor_173 : Dc cX2_factor 173 (.iload_n 2) 1 174 := ⟨by decide +kernel, rfl⟩
theorem eX2_factor_174 : Dc cX2_factor 174 (.iconst 0) 1 175 := ⟨by decide +kernel, rfl⟩
theorem eX2_factor_175 : Dc cX2_factor 175 (.iconst 1) 1 176 := ⟨by decide +kernel, rfl⟩
theorem eX2_factor_176 : Dc cX2_factor 176 (.invokestatic 58) 3 179 := ⟨by decide +kernel, rfl⟩
theorem eX2_factor_179 : Db cX2_factor 179 (fun o => .ifCond .ne o) 186 182 := ⟨7, by decide +kernel, by decide, rfl⟩
theorem eX2_factor_182 : Dc cX2_factor 182 (.iconst 1) 1 183 := ⟨by decide +kernel, rfl⟩
theorem eX2_factor_183 : Db cX2_factor 183 (fun o => .goto o) 187 186 := ⟨4, by decide +kernel, by decide, rfl⟩
theorem eX2_factor_186 : Dc cX2_factor 186 (.iconst 0) 1 187 := ⟨by decide +kernel, rfl⟩
theorem eX2_factor_187 : Dc cX2_factor 187 (.putfield 81) 3 190 := ⟨by decide +kernel, rfl⟩
theorem eX2_factor_190 : Dc cX2_factor 190 (.aload_n 0) 1 191 := ⟨by decide +kernel, rfl⟩
theorem eX2_factor_191 : Dc cX2_factor 191 (.dup) 1 192 := ⟨by decide +kernel, rfl⟩
theorem eX2_factor_192 : Dc cX2_factor 192 (.getfield 75) 3 195 := ⟨by decide +kernel, rfl⟩
theorem eX2_factor_195 : Dc cX2_factor 195 (.aload_n 0) 1 196 := ⟨by decide +kernel, rfl⟩
theorem eX2_factor_196 : Dc cX2_factor 196 (.getfield 81) 3 199 := ⟨by decide +kernel, rfl⟩
theorem eX2_factor_199 : Db cX2_factor 199 (fun o => .ifCond .eq o) 206 202 := ⟨7, by decide +kernel, by decide, rfl⟩
theorem eX2_factor_202 : Dc cX2_factor 202 (.iconst 0) 1 203 := ⟨by decide +kernel, rfl⟩
theorem eX2_factor_203 : Db cX2_factor 203 (fun o => .goto o) 207 206 := ⟨4, by decide +kernel, by decide, rfl⟩
theorem eX2_factor_206 : Dc cX2_factor 206 (.iconst 1) 1 207 := ⟨by decide +kernel, rfl⟩
theorem eX2_factor_207 : Dc cX2_factor 207 (.iadd) 1 208 := ⟨by decide +kernel, rfl⟩
theorem eX2_factor_208 : Dc cX2_factor 208 (.putfield 75) 3 211 := ⟨by decide +kernel, rfl⟩
theorem eX2_factor_211 : Dc cX2_factor 211 (.aload_n 0) 1 212 := ⟨by decide +kernel, rfl⟩
theorem eX2_factor_212 : Dc cX2_factor 212 (.getfield 17) 3 215 := ⟨by decide +kernel, rfl⟩
theorem eX2_factor_215 : Dc cX2_factor 215 (.iconst 5) 1 216 := ⟨by decide +kernel, rfl⟩
theorem eX2_factor_216 : Dc cX2_factor 216 (.iaload) 1 217 := ⟨by decide +kernel, rfl⟩
theorem eX2_factor_217 : Dc cX2_factor 217 (.iload_n 2) 1 218 := ⟨by decide +kernel, rfl⟩
theorem eX2_factor_218 : Db cX2_factor 218 (fun o => .if_icmp .ne o) 225 221 := ⟨7, by decide +kernel, by decide, rfl⟩
theorem eX2_factor_221 : Dc cX2_factor 221 (.iconst 1) 1 222 := ⟨by decide +kernel, rfl⟩
theorem eX2_factor_222 : Db cX2_factor 222 (fun o => .goto o) 226 225 := ⟨4, by decide +kernel, by decide, rfl⟩
theorem eX2_factor_225 : Dc cX2_factor 225 (.iconst 0) 1 226 := ⟨by decide +kernel, rfl⟩
theorem eX2_factor_226 : Dc cX2_factor 226 (.ireturn) 1 227 := ⟨by decide +kernel, rfl⟩
theorem eX2_factor_227 : Dc cX2_factor 227 (.iload_n 1) 1 228 := ⟨by decide +kernel, rfl⟩
theorem eX2_factor_228 : Dc cX2_factor 228 (.bipush 121) 2 230 := ⟨by decide +kernel, rfl⟩
theorem eX2_factor_230 : Db cX2_factor 230 (fun o => .if_icmp .ne o) 237 233 := ⟨7, by decide +kernel, by decide, rfl⟩
theorem eX2_factor_233 : Dc cX2_factor 233 (.iconst 0) 1 234 := ⟨by decide +kernel, rfl⟩
theorem eX2_factor_234 : Db cX2_factor 234 (fun o => .goto o) 278 237 := ⟨44, by decide +kernel, by decide, rfl⟩
theorem eX2_factor_237 : Dc cX2_factor 237 (.iload_n 1) 1 238 := ⟨by decide +kernel, rfl⟩
theorem eX2_factor_238 : Dc cX2_factor 238 (.bipush 116) 2 240 := ⟨by decide +kernel, rfl⟩
theorem eX2_factor_240 : Db cX2_factor 240 (fun o => .if_icmp .ne o) 247 243 := ⟨7, by decide +kernel, by decide, rfl⟩
theorem eX2_factor_243 : Dc cX2_factor 243 (.iconst 1) 1 244 := ⟨by decide +kernel, rfl⟩
theorem eX2_factor_244 : Db cX2_factor 244 (fun o => .goto o) 278 247 := ⟨34, by decide +kernel, by decide, rfl⟩
theorem eX2_factor_247 : Dc cX2_factor 247 (.iload_n 1) 1 248 := ⟨by decide +kernel, rfl⟩
theorem eX2_factor_248 : Dc cX2_factor 248 (.bipush 119) 2 250 := ⟨by decide +kernel, rfl⟩
theorem eX2_factor_250 : Db cX2_factor 250 (fun o => .if_icmp .ne o) 257 253 := ⟨7, by decide +kernel, by decide, rfl⟩
theorem eX2_factor_253 : Dc cX2_factor 253 (.iconst 2) 1 254 := ⟨by decide +kernel, rfl⟩
theorem eX2_factor_254 : Db cX2_factor 254 (fun o => .goto o) 278 257 := ⟨24, by decide +kernel, by decide, rfl⟩
theorem eX2_factor_257 : Dc cX2_factor 257 (.iload_n 1) 1 258 := ⟨by decide +kernel, rfl⟩
theorem eX2_factor_258 : Dc cX2_factor 258 (.bipush 114) 2 260 := ⟨by decide +kernel, rfl⟩
theorem eX2_factor_260 : Db cX2_factor 260 (fun o => .if_icmp .ne o) 267 263 := ⟨7, by decide +kernel, by decide, rfl⟩
theorem eX2_factor_263 : Dc cX2_factor 263 (.iconst 3) 1 264 := ⟨by decide +kernel, rfl⟩
theorem eX2_factor_264 : Db cX2_factor 264 (fun o => .goto o) 278 267 := ⟨14, by decide +kernel, by decide, rfl⟩
theorem eX2_factor_267 : Dc cX2_factor 267 (.iload_n 1) 1 268 := ⟨by decide +kernel, rfl⟩
theorem eX2_factor_268 : Dc cX2_factor 268 (.bipush 99) 2 270 := ⟨by decide +kernel, rfl⟩
theorem eX2_factor_270 : Db cX2_factor 270 (fun o => .if_icmp .ne o) 277 273 := ⟨7, by decide +kernel, by decide, rfl⟩
theorem eX2_factor_273 : Dc cX2_factor 273 (.iconst 4) 1 274 := ⟨by decide +kernel, rfl⟩
theorem eX2_factor_274 : Db cX2_factor 274 (fun o => .goto o) 278 277 := ⟨4, by decide +kernel, by decide, rfl⟩
theorem eX2_factor_277 : Dc cX2_factor 277 (.iconst (-1)) 1 278 := ⟨by decide +kernel, rfl⟩
theorem eX2_factor_278 : Dc cX2_factor 278 (.istore_n 2) 1 279 := ⟨by decide +kernel, rfl⟩
theorem eX2_factor_279 : Dc cX2_factor 279 (.aload_n 0) 1 280 := ⟨by decide +kernel, rfl⟩
theorem eX2_factor_280 : Dc cX2_factor 280 (.iload_n 2) 1 281 := ⟨by decide +kernel, rfl⟩
theorem eX2_factor_281 : Dc cX2_factor 281 (.iconst (-1)) 1 282 := ⟨by decide +kernel, rfl⟩
theorem eX2_factor_282 : Db cX2_factor 282 (fun o => .if_icmp .ne o) 289 285 := ⟨7, by decide +kernel, by decide, rfl⟩
theorem eX2_factor_285 : Dc cX2_factor 285 (.iconst 1) 1 286 := ⟨by decide +kernel, rfl⟩
theorem eX2_factor_286 : Db cX2_factor 286 (fun o => .goto o) 290 289 := ⟨4, by decide +kernel, by decide, rfl⟩
theorem eX2_factor_289 : Dc cX2_factor 289 (.iconst 0) 1 290 := ⟨by decide +kernel, rfl⟩
theorem eX2_factor_290 : Dc cX2_factor 290 (.putfield 81) 3 293 := ⟨by decide +kernel, rfl⟩
theorem eX2_factor_293 : Dc cX2_factor 293 (.aload_n 0) 1 294 := ⟨by decide +kernel, rfl⟩
theorem eX2_factor_294 : Dc cX2_factor 294 (.dup) 1 295 := ⟨by decide +kernel, rfl⟩
theorem eX2_factor_295 : Dc cX2_factor 295 (.getfield 75) 3 298 := ⟨by decide +kernel, rfl⟩
theorem eX2_factor_298 : Dc cX2_factor 298 (.aload_n 0) 1 299 := ⟨by decide +kernel, rfl⟩
theorem eX2_factor_299 : Dc cX2_factor 299 (.getfield 81) 3 302 := ⟨by decide +kernel, rfl⟩
theorem eX2_factor_302 : Db cX2_factor 302 (fun o => .ifCond .eq o) 309 305 := ⟨7, by decide +kernel, by decide, rfl⟩
theorem eX2_factor_305 : Dc cX2_factor 305 (.iconst 0) 1 306 := ⟨by decide +kernel, rfl⟩
theorem eX2_factor_306 : Db cX2_factor 306 (fun o => .goto o) 310 309 := ⟨4, by decide +kernel, by decide, rfl⟩
theorem eX2_factor_309 : Dc cX2_factor 309 (.iconst 1) 1 310 := ⟨by decide +kernel, rfl⟩
theorem eX2_factor_310 : Dc cX2_factor 310 (.iadd) 1 311 := ⟨by decide +kernel, rfl⟩
theorem eX2_factor_311 : Dc cX2_factor 311 (.putfield 75) 3 314 := ⟨by decide +kernel, rfl⟩
theorem eX2_factor_314 : Dc cX2_factor 314 (.aload_n 0) 1 315 := ⟨by decide +kernel, rfl⟩
theorem eX2_factor_315 : Dc cX2_factor 315 (.invokevirtual 85) 3 318 := ⟨by decide +kernel, rfl⟩
theorem eX2_factor_318 : Dc cX2_factor 318 (.istore_n 3) 1 319 := ⟨by decide +kernel, rfl⟩
theorem eX2_factor_319 : Dc cX2_factor 319 (.aload_n 0) 1 320 := ⟨by decide +kernel, rfl⟩
theorem eX2_factor_320 : Dc cX2_factor 320 (.aload_n 0) 1 321 := ⟨by decide +kernel, rfl⟩
theorem eX2_factor_321 : Dc cX2_factor 321 (.getfield 81) 3 324 := ⟨by decide +kernel, rfl⟩
theorem eX2_factor_324 : Db cX2_factor 324 (fun o => .ifCond .ne o) 339 327 := ⟨15, by decide +kernel, by decide, rfl⟩
theorem eX2_factor_327 : Dc cX2_factor 327 (.iload_n 3) 1 328 := ⟨by decide +kernel, rfl⟩
theorem eX2_factor_328 : Dc cX2_factor 328 (.bipush 60) 2 330 := ⟨by decide +kernel, rfl⟩
theorem eX2_factor_330 : Db cX2_factor 330 (fun o => .if_icmp .eq o) 343 333 := ⟨13, by decide +kernel, by decide, rfl⟩
theorem eX2_factor_333 : Dc cX2_factor 333 (.iload_n 3) 1 334 := ⟨by decide +kernel, rfl⟩
theorem eX2_factor_334 : Dc cX2_factor 334 (.bipush 62) 2 336 := ⟨by decide +kernel, rfl⟩
theorem eX2_factor_336 : Db cX2_factor 336 (fun o => .if_icmp .eq o) 343 339 := ⟨7, by decide +kernel, by decide, rfl⟩
theorem eX2_factor_339 : Dc cX2_factor 339 (.iconst 1) 1 340 := ⟨by decide +kernel, rfl⟩
theorem eX2_factor_340 : Db cX2_factor 340 (fun o => .goto o) 344 343 := ⟨4, by decide +kernel, by decide, rfl⟩
theorem eX2_factor_343 : Dc cX2_factor 343 (.iconst 0) 1 344 := ⟨by decide +kernel, rfl⟩
theorem eX2_factor_344 : Dc cX2_factor 344 (.putfield 81) 3 347 := ⟨by decide +kernel, rfl⟩
theorem eX2_factor_347 : Dc cX2_factor 347 (.aload_n 0) 1 348 := ⟨by decide +kernel, rfl⟩
theorem eX2_factor_348 : Dc cX2_factor 348 (.dup) 1 349 := ⟨by decide +kernel, rfl⟩
theorem eX2_factor_349 : Dc cX2_factor 349 (.getfield 75) 3 352 := ⟨by decide +kernel, rfl⟩
theorem eX2_factor_352 : Dc cX2_factor 352 (.aload_n 0) 1 353 := ⟨by decide +kernel, rfl⟩
theorem eX2_factor_353 : Dc cX2_factor 353 (.getfield 81) 3 356 := ⟨by decide +kernel, rfl⟩
theorem eX2_factor_356 : Db cX2_factor 356 (fun o => .ifCond .eq o) 363 359 := ⟨7, by decide +kernel, by decide, rfl⟩
theorem eX2_factor_359 : Dc cX2_factor 359 (.iconst 0) 1 360 := ⟨by decide +kernel, rfl⟩
theorem eX2_factor_360 : Db cX2_factor 360 (fun o => .goto o) 364 363 := ⟨4, by decide +kernel, by decide, rfl⟩
theorem eX2_factor_363 : Dc cX2_factor 363 (.iconst 1) 1 364 := ⟨by decide +kernel, rfl⟩
theorem eX2_factor_364 : Dc cX2_factor 364 (.iadd) 1 365 := ⟨by decide +kernel, rfl⟩
theorem eX2_factor_365 : Dc cX2_factor 365 (.putfield 75) 3 368 := ⟨by decide +kernel, rfl⟩
theorem eX2_factor_368 : Dc cX2_factor 368 (.aload_n 0) 1 369 := ⟨by decide +kernel, rfl⟩
theorem eX2_factor_369 : Dc cX2_factor 369 (.invokevirtual 129) 3 372 := ⟨by decide +kernel, rfl⟩
theorem eX2_factor_372 : Dc cX2_factor 372 (.istore 4) 2 374 := ⟨by decide +kernel, rfl⟩
theorem eX2_factor_374 : Dc cX2_factor 374 (.aload_n 0) 1 375 := ⟨by decide +kernel, rfl⟩
theorem eX2_factor_375 : Dc cX2_factor 375 (.getfield 81) 3 378 := ⟨by decide +kernel, rfl⟩
theorem eX2_factor_378 : Db cX2_factor 378 (fun o => .ifCond .eq o) 385 381 := ⟨7, by decide +kernel, by decide, rfl⟩
theorem eX2_factor_381 : Dc cX2_factor 381 (.iconst 0) 1 382 := ⟨by decide +kernel, rfl⟩
theorem eX2_factor_382 : Db cX2_factor 382 (fun o => .goto o) 391 385 := ⟨9, by decide +kernel, by decide, rfl⟩
theorem eX2_factor_385 : Dc cX2_factor 385 (.aload_n 0) 1 386 := ⟨by decide +kernel, rfl⟩
theorem eX2_factor_386 : Dc cX2_factor 386 (.getfield 17) 3 389 := ⟨by decide +kernel, rfl⟩
theorem eX2_factor_389 : Dc cX2_factor 389 (.iload_n 2) 1 390 := ⟨by decide +kernel, rfl⟩
theorem eX2_factor_390 : Dc cX2_factor 390 (.iaload) 1 391 := ⟨by decide +kernel, rfl⟩
theorem eX2_factor_391 : Dc cX2_factor 391 (.istore 5) 2 393 := ⟨by decide +kernel, rfl⟩
theorem eX2_factor_393 : Dc cX2_factor 393 (.iload_n 3) 1 394 := ⟨by decide +kernel, rfl⟩
theorem eX2_factor_394 : Dc cX2_factor 394 (.bipush 60) 2 396 := ⟨by decide +kernel, rfl⟩
theorem eX2_factor_396 : Db cX2_factor 396 (fun o => .if_icmp .ne o) 414 399 := ⟨18, by decide +kernel, by decide, rfl⟩
theorem eX2_factor_399 : Dc cX2_factor 399 (.iload 5) 2 401 := ⟨by decide +kernel, rfl⟩
theorem eX2_factor_401 : Dc cX2_factor 401 (.iload 4) 2 403 := ⟨by decide +kernel, rfl⟩
theorem eX2_factor_403 : Db cX2_factor 403 (fun o => .if_icmp .ge o) 410 406 := ⟨7, by decide +kernel, by decide, rfl⟩
theorem eX2_factor_406 : Dc cX2_factor 406 (.iconst 1) 1 407 := ⟨by decide +kernel, rfl⟩
theorem eX2_factor_407 : Db cX2_factor 407 (fun o => .goto o) 426 410 := ⟨19, by decide +kernel, by decide, rfl⟩
theorem eX2_factor_410 : Dc cX2_factor 410 (.iconst 0) 1 411 := ⟨by decide +kernel, rfl⟩
theorem eX2_factor_411 : Db cX2_factor 411 (fun o => .goto o) 426 414 := ⟨15, by decide +kernel, by decide, rfl⟩
theorem eX2_factor_414 : Dc cX2_factor 414 (.iload 5) 2 416 := ⟨by decide +kernel, rfl⟩
theorem eX2_factor_416 : Dc cX2_factor 416 (.iload 4) 2 418 := ⟨by decide +kernel, rfl⟩
theorem eX2_factor_418 : Db cX2_factor 418 (fun o => .if_icmp .le o) 425 421 := ⟨7, by decide +kernel, by decide, rfl⟩
theorem eX2_factor_421 : Dc cX2_factor 421 (.iconst 1) 1 422 := ⟨by decide +kernel, rfl⟩
theorem eX2_factor_422 : Db cX2_factor 422 (fun o => .goto o) 426 425 := ⟨4, by decide +kernel, by decide, rfl⟩
theorem eX2_factor_425 : Dc cX2_factor 425 (.iconst 0) 1 426 := ⟨by decide +kernel, rfl⟩
theorem eX2_factor_426 : Dc cX2_factor 426 (.ireturn) 1 427 := ⟨by decide +kernel, rfl⟩
theorem eX2_must_0 : Dc cX2_must 0 (.aload_n 0) 1 1 := ⟨by decide +kernel, rfl⟩
theorem eX2_must_1 : Dc cX2_must 1 (.aload_n 0) 1 2 := ⟨by decide +kernel, rfl⟩
theorem eX2_must_2 : Dc cX2_must 2 (.getfield 81) 3 5 := ⟨by decide +kernel, rfl⟩
theorem eX2_must_5 : Db cX2_must 5 (fun o => .ifCond .ne o) 16 8 := ⟨11, by decide +kernel, by decide, rfl⟩
theorem eX2_must_8 : Dc cX2_must 8 (.aload_n 0) 1 9 := ⟨by decide +kernel, rfl⟩
theorem eX2_must_9 : Dc cX2_must 9 (.invokevirtual 85) 3 12 := ⟨by decide +kernel, rfl⟩
theorem eX2_must_12 : Dc cX2_must 12 (.iload_n 1) 1 13 := ⟨by decide +kernel, rfl⟩
theorem eX2_must_13 : Db cX2_must 13 (fun o => .if_icmp .eq o) 20 16 := ⟨7, by decide +kernel, by decide, rfl⟩
theorem eX2_must_16 : Dc cX2_must 16 (.iconst 1) 1 17 := ⟨by decide +kernel, rfl⟩
theorem eX2_must_17 : Db cX2_must 17 (fun o => .goto o) 21 20 := ⟨4, by decide +kernel, by decide, rfl⟩
theorem eX2_must_20 : Dc cX2_must 20 (.iconst 0) 1 21 := ⟨by decide +kernel, rfl⟩
theorem eX2_must_21 : Dc cX2_must 21 (.putfield 81) 3 24 := ⟨by decide +kernel, rfl⟩
theorem eX2_must_24 : Dc cX2_must 24 (.aload_n 0) 1 25 := ⟨by decide +kernel, rfl⟩
theorem eX2_must_25 : Dc cX2_must 25 (.dup) 1 26 := ⟨by decide +kernel, rfl⟩
theorem eX2_must_26 : Dc cX2_must 26 (.getfield 75) 3 29 := ⟨by decide +kernel, rfl⟩
theorem eX2_must_29 : Dc cX2_must 29 (.aload_n 0) 1 30 := ⟨by decide +kernel, rfl⟩
theorem eX2_must_30 : Dc cX2_must 30 (.getfield 81) 3 33 := ⟨by decide +kernel, rfl⟩
theorem eX2_must_33 : Db cX2_must 33 (fun o => .ifCond .eq o) 40 36 := ⟨7, by decide +kernel, by decide, rfl⟩
theorem eX2_must_36 : Dc cX2_must 36 (.iconst 0) 1 37 := ⟨by decide +kernel, rfl⟩
theorem eX2_must_37 : Db cX2_must 37 (fun o => .goto o) 41 40 := ⟨4, by decide +kernel, by decide, rfl⟩
theorem eX2_must_40 : Dc cX2_must 40 (.iconst 1) 1 41 := ⟨by decide +kernel, rfl⟩
theorem eX2_must_41 : Dc cX2_must 41 (.iadd) 1 42 := ⟨by decide +kernel, rfl⟩
theorem eX2_must_42 : Dc cX2_must 42 (.putfield 75) 3 45 := ⟨by decide +kernel, rfl⟩
theorem eX2_must_45 : Dc cX2_must 45 (.return_) 1 46 := ⟨by decide +kernel, rfl⟩
theorem eX2_number_0 : Dc cX2_number 0 (.aload_n 0) 1 1 := ⟨by decide +kernel, rfl⟩
theorem eX2_number_1 : Dc cX2_number 1 (.aload_n 0) 1 2 := ⟨by decide +kernel, rfl⟩
theorem eX2_number_2 : Dc cX2_number 2 (.getfield 81) 3 5 := ⟨by decide +kernel, rfl⟩
theorem eX2_number_5 : Db cX2_number 5 (fun o => .ifCond .ne o) 22 8 := ⟨17, by decide +kernel, by decide, rfl⟩
theorem eX2_number_8 : Dc cX2_number 8 (.aload_n 0) 1 9 := ⟨by decide +kernel, rfl⟩
theorem eX2_number_9 : Dc cX2_number 9 (.invokevirtual 85) 3 12 := ⟨by decide +kernel, rfl⟩
theorem eX2_number_12 : Dc cX2_number 12 (.bipush 48) 2 14 := ⟨by decide +kernel, rfl⟩
theorem eX2_number_14 : Dc cX2_number 14 (.bipush 57) 2 16 := ⟨by decide +kernel, rfl⟩
theorem eX2_number_16 : Dc cX2_number 16 (.invokestatic 58) 3 19 := ⟨by decide +kernel, rfl⟩
theorem eX2_number_19 : Db cX2_number 19 (fun o => .ifCond .ne o) 26 22 := ⟨7, by decide +kernel, by decide, rfl⟩
theorem eX2_number_22 : Dc cX2_number 22 (.iconst 1) 1 23 := ⟨by decide +kernel, rfl⟩
theorem eX2_number_23 : Db cX2_number 23 (fun o => .goto o) 27 26 := ⟨4, by decide +kernel, by decide, rfl⟩
theorem eX2_number_26 : Dc cX2_number 26 (.iconst 0) 1 27 := ⟨by decide +kernel, rfl⟩
theorem eX2_number_27 : Dc cX2_number 27 (.putfield 81) 3 30 := ⟨by decide +kernel, rfl⟩
theorem eX2_number_30 : Dc cX2_number 30 (.iconst 0) 1 31 := ⟨by decide +kernel, rfl⟩
theorem eX2_number_31 : Dc cX2_number 31 (.istore_n 1) 1 32 := ⟨by decide +kernel, rfl⟩
theorem eX2_number_32 : Dc cX2_number 32 (.iconst 0) 1 33 := ⟨by decide +kernel, rfl⟩
theorem eX2_number_33 : Dc cX2_number 33 (.istore_n 2) 1 34 := ⟨by decide +kernel, rfl⟩
theorem eX2_number_34 : Dc cX2_number 34 (.iload_n 2) 1 35 := ⟨by decide +kernel, rfl⟩
theorem eX2_number_35 : Dc cX2_number 35 (.iconst 3) 1 36 := ⟨by decide +kernel, rfl⟩
theorem eX2_number_36 : Db cX2_number 36 (fun o => .if_icmp .ge o) 97 39 := ⟨61, by decide +kernel, by decide, rfl⟩
theorem eX2_number_39 : Dc cX2_number 39 (.aload_n 0) 1 40 := ⟨by decide +kernel, rfl⟩
theorem eX2_number_40 : Dc cX2_number 40 (.getfield 81) 3 43 := ⟨by decide +kernel, rfl⟩
theorem eX2_number_43 : Db cX2_number 43 (fun o => .ifCond .ne o) 97 46 := ⟨54, by decide +kernel, by decide, rfl⟩
theorem eX2_number_46 : Dc cX2_number 46 (.aload_n 0) 1 47 := ⟨by decide +kernel, rfl⟩
theorem eX2_number_47 : Dc cX2_number 47 (.invokevirtual 85) 3 50 := ⟨by decide +kernel, rfl⟩
theorem eX2_number_50 : Dc cX2_number 50 (.bipush 48) 2 52 := ⟨by decide +kernel, rfl⟩
theorem eX2_number_52 : Dc cX2_number 52 (.bipush 57) 2 54 := ⟨by decide +kernel, rfl⟩
theorem eX2_number_54 : Dc cX2_number 54 (.invokestatic 58) 3 57 := ⟨by decide +kernel, rfl⟩
theorem eX2_number_57 : Db cX2_number 57 (fun o => .ifCond .eq o) 97 60 := ⟨40, by decide +kernel, by decide, rfl⟩
theorem eX2_number_60 : Dc cX2_number 60 (.iload_n 2) 1 61 := ⟨by decide +kernel, rfl⟩
theorem eX2_number_61 : Db cX2_number 61 (fun o => .ifCond .eq o) 68 64 := ⟨7, by decide +kernel, by decide, rfl⟩
theorem eX2_number_64 : Dc cX2_number 64 (.iload_n 1) 1 65 := ⟨by decide +kernel, rfl⟩
theorem eX2_number_65 : Db cX2_number 65 (fun o => .ifCond .le o) 97 68 := ⟨32, by decide +kernel, by decide, rfl⟩
theorem eX2_number_68 : Dc cX2_number 68 (.bipush 10) 2 70 := ⟨by decide +kernel, rfl⟩
theorem eX2_number_70 : Dc cX2_number 70 (.iload_n 1) 1 71 := ⟨by decide +kernel, rfl⟩
theorem eX2_number_71 : Dc cX2_number 71 (.imul) 1 72 := ⟨by decide +kernel, rfl⟩
theorem eX2_number_72 : Dc cX2_number 72 (.aload_n 0) 1 73 := ⟨by decide +kernel, rfl⟩
theorem eX2_number_73 : Dc cX2_number 73 (.invokevirtual 85) 3 76 := ⟨by decide +kernel, rfl⟩
theorem eX2_number_76 : Dc cX2_number 76 (.iadd) 1 77 := ⟨by decide +kernel, rfl⟩
theorem eX2_number_77 : Dc cX2_number 77 (.bipush 48) 2 79 := ⟨by decide +kernel, rfl⟩
theorem eX2_number_79 : Dc cX2_number 79 (.isub) 1 80 := ⟨by decide +kernel, rfl⟩
theorem eX2_number_80 : Dc cX2_number 80 (.istore_n 1) 1 81 := ⟨by decide +kernel, rfl⟩
theorem eX2_number_81 : Dc cX2_number 81 (.aload_n 0) 1 82 := ⟨by decide +kernel, rfl⟩
theorem eX2_number_82 : Dc cX2_number 82 (.dup) 1 83 := ⟨by decide +kernel, rfl⟩
theorem eX2_number_83 : Dc cX2_number 83 (.getfield 75) 3 86 := ⟨by decide +kernel, rfl⟩
theorem eX2_number_86 : Dc cX2_number 86 (.iconst 1) 1 87 := ⟨by decide +kernel, rfl⟩
theorem eX2_number_87 : Dc cX2_number 87 (.iadd) 1 88 := ⟨by decide +kernel, rfl⟩
theorem eX2_number_88 : Dc cX2_number 88 (.putfield 75) 3 91 := ⟨by decide +kernel, rfl⟩
theorem eX2_number_91 : Dc cX2_number 91 (.iinc 2 1) 3 94 := ⟨by decide +kernel, rfl⟩
theorem eX2_number_94 : Db cX2_number 94 (fun o => .goto o) 34 97 := ⟨-60, by decide +kernel, by decide, rfl⟩
theorem eX2_number_97 : Dc cX2_number 97 (.iload_n 1) 1 98 := ⟨by decide +kernel, rfl⟩
theorem eX2_number_98 : Dc cX2_number 98 (.ireturn) 1 99 := ⟨by decide +kernel, rfl⟩
theorem eX2_force_0 : Dc cX2_force 0 (.iload_n 1) 1 1 := ⟨by decide +kernel, rfl⟩
theorem eX2_force_1 : Dc cX2_force 1 (.iconst 0) 1 2 := ⟨by decide +kernel, rfl⟩
theorem eX2_force_2 : Dc cX2_force 2 (.bipush 6) 2 4 := ⟨by decide +kernel, rfl⟩
theorem eX2_force_4 : Dc cX2_force 4 (.invokestatic 58) 3 7 := ⟨by decide +kernel, rfl⟩
theorem eX2_force_7 : Db cX2_force 7 (fun o => .ifCond .ne o) 14 10 := ⟨7, by decide +kernel, by decide, rfl⟩
theorem eX2_force_10 : Dc cX2_force 10 (.iconst (-1)) 1 11 := ⟨by decide +kernel, rfl⟩
theorem eX2_force_11 : Db cX2_force 11 (fun o => .goto o) 32 14 := ⟨21, by decide +kernel, by decide, rfl⟩
theorem eX2_force_14 : Dc cX2_force 14 (.iload_n 2) 1 15 := ⟨by decide +kernel, rfl⟩
theorem eX2_force_15 : Dc cX2_force 15 (.invokestatic 141) 3 18 := ⟨by decide +kernel, rfl⟩
theorem eX2_force_18 : Db cX2_force 18 (fun o => .ifCond .eq o) 30 21 := ⟨12, by decide +kernel, by decide, rfl⟩
theorem eX2_force_21 : Dc cX2_force 21 (.aload_n 0) 1 22 := ⟨by decide +kernel, rfl⟩
theorem eX2_force_22 : Dc cX2_force 22 (.iload_n 1) 1 23 := ⟨by decide +kernel, rfl⟩
theorem eX2_force_23 : Dc cX2_force 23 (.iload_n 2) 1 24 := ⟨by decide +kernel, rfl⟩
theorem eX2_force_24 : Dc cX2_force 24 (.invokevirtual 152) 3 27 := ⟨by decide +kernel, rfl⟩
theorem eX2_force_27 : Db cX2_force 27 (fun o => .goto o) 32 30 := ⟨5, by decide +kernel, by decide, rfl⟩
theorem eX2_force_30 : Dc cX2_force 30 (.bipush (-2)) 2 32 := ⟨by decide +kernel, rfl⟩
theorem eX2_force_32 : Dc cX2_force 32 (.ireturn) 1 33 := ⟨by decide +kernel, rfl⟩
theorem eX2_rule_0 : Dc cX2_rule 0 (.aload_n 0) 1 1 := ⟨by decide +kernel, rfl⟩
theorem eX2_rule_1 : Dc cX2_rule 1 (.iload_n 1) 1 2 := ⟨by decide +kernel, rfl⟩
theorem eX2_rule_2 : Dc cX2_rule 2 (.iload_n 2) 1 3 := ⟨by decide +kernel, rfl⟩
theorem eX2_rule_3 : Dc cX2_rule 3 (.invokevirtual 148) 3 6 := ⟨by decide +kernel, rfl⟩
theorem eX2_rule_6 : Dc cX2_rule 6 (.istore_n 3) 1 7 := ⟨by decide +kernel, rfl⟩
theorem eX2_rule_7 : Dc cX2_rule 7 (.iload_n 3) 1 8 := ⟨by decide +kernel, rfl⟩
theorem eX2_rule_8 : Dc cX2_rule 8 (.iconst (-1)) 1 9 := ⟨by decide +kernel, rfl⟩
theorem eX2_rule_9 : Db cX2_rule 9 (fun o => .if_icmp .eq o) 23 12 := ⟨14, by decide +kernel, by decide, rfl⟩
theorem eX2_rule_12 : Dc cX2_rule 12 (.aload_n 0) 1 13 := ⟨by decide +kernel, rfl⟩
theorem eX2_rule_13 : Dc cX2_rule 13 (.getfield 8) 3 16 := ⟨by decide +kernel, rfl⟩
theorem eX2_rule_16 : Dc cX2_rule 16 (.sipush 10990) 3 19 := ⟨by decide +kernel, rfl⟩
theorem eX2_rule_19 : Dc cX2_rule 19 (.iload_n 3) 1 20 := ⟨by decide +kernel, rfl⟩
theorem eX2_rule_20 : Dc cX2_rule 20 (.iadd) 1 21 := ⟨by decide +kernel, rfl⟩
theorem eX2_rule_21 : Dc cX2_rule 21 (.iaload) 1 22 := ⟨by decide +kernel, rfl⟩
theorem eX2_rule_22 : Dc cX2_rule 22 (.ireturn) 1 23 := ⟨by decide +kernel, rfl⟩
theorem eX2_rule_23 : Dc cX2_rule 23 (.iload_n 1) 1 24 := ⟨by decide +kernel, rfl⟩
theorem eX2_rule_24 : Dt cX2_rule 24 (0) [64, 67, 69, 73, 76, 79] 81 := ⟨57, 5, #[40, 43, 45, 49, 52, 55], 40, by decide +kernel, by decide, by decide, by decide⟩
theorem eX2_rule_64 : Dc cX2_rule 64 (.bipush 99) 2 66 := ⟨by decide +kernel, rfl⟩
theorem eX2_rule_66 : Dc cX2_rule 66 (.ireturn) 1 67 := ⟨by decide +kernel, rfl⟩
theorem eX2_rule_67 : Dc cX2_rule 67 (.iconst 2) 1 68 := ⟨by decide +kernel, rfl⟩
theorem eX2_rule_68 : Dc cX2_rule 68 (.ireturn) 1 69 := ⟨by decide +kernel, rfl⟩
theorem eX2_rule_69 : Dc cX2_rule 69 (.sipush 999) 3 72 := ⟨by decide +kernel, rfl⟩
theorem eX2_rule_72 : Dc cX2_rule 72 (.ireturn) 1 73 := ⟨by decide +kernel, rfl⟩
theorem eX2_rule_73 : Dc cX2_rule 73 (.bipush 50) 2 75 := ⟨by decide +kernel, rfl⟩
theorem eX2_rule_75 : Dc cX2_rule 75 (.ireturn) 1 76 := ⟨by decide +kernel, rfl⟩
theorem eX2_rule_76 : Dc cX2_rule 76 (.bipush 10) 2 78 := ⟨by decide +kernel, rfl⟩
theorem eX2_rule_78 : Dc cX2_rule 78 (.ireturn) 1 79 := ⟨by decide +kernel, rfl⟩
theorem eX2_rule_79 : Dc cX2_rule 79 (.iconst 1) 1 80 := ⟨by decide +kernel, rfl⟩
theorem eX2_rule_80 : Dc cX2_rule 80 (.ireturn) 1 81 := ⟨by decide +kernel, rfl⟩
theorem eX2_rule_81 : Dc cX2_rule 81 (.iconst 0) 1 82 := ⟨by decide +kernel, rfl⟩
theorem eX2_rule_82 : Dc cX2_rule 82 (.ireturn) 1 83 := ⟨by decide +kernel, rfl⟩
theorem eX2_ruling_0 : Dc cX2_ruling 0 (.iconst (-1)) 1 1 := ⟨by decide +kernel, rfl⟩
theorem eX2_ruling_1 : Dc cX2_ruling 1 (.istore_n 3) 1 2 := ⟨by decide +kernel, rfl⟩
theorem eX2_ruling_2 : Dc cX2_ruling 2 (.iconst 0) 1 3 := ⟨by decide +kernel, rfl⟩
theorem eX2_ruling_3 : Dc cX2_ruling 3 (.istore 4) 2 5 := ⟨by decide +kernel, rfl⟩
theorem eX2_ruling_5 : Dc cX2_ruling 5 (.iload 4) 2 7 := ⟨by decide +kernel, rfl⟩
theorem eX2_ruling_7 : Dc cX2_ruling 7 (.aload_n 0) 1 8 := ⟨by decide +kernel, rfl⟩
theorem eX2_ruling_8 : Dc cX2_ruling 8 (.getfield 8) 3 11 := ⟨by decide +kernel, rfl⟩
theorem eX2_ruling_11 : Dc cX2_ruling 11 (.iconst 3) 1 12 := ⟨by decide +kernel, rfl⟩
theorem eX2_ruling_12 : Dc cX2_ruling 12 (.iaload) 1 13 := ⟨by decide +kernel, rfl⟩
theorem eX2_ruling_13 : Db cX2_ruling 13 (fun o => .if_icmp .ge o) 140 16 := ⟨127, by decide +kernel, by decide, rfl⟩
theorem eX2_ruling_16 : Dc cX2_ruling 16 (.iconst 0) 1 17 := ⟨by decide +kernel, rfl⟩
theorem eX2_ruling_17 : Dc cX2_ruling 17 (.istore 5) 2 19 := ⟨by decide +kernel, rfl⟩
theorem eX2_ruling_19 : Dc cX2_ruling 19 (.iload 5) 2 21 := ⟨by decide +kernel, rfl⟩
theorem eX2_ruling_21 : Dc cX2_ruling 21 (.aload_n 0) 1 22 := ⟨by decide +kernel, rfl⟩
theorem eX2_ruling_22 : Dc cX2_ruling 22 (.getfield 8) 3 25 := ⟨by decide +kernel, rfl⟩
theorem eX2_ruling_25 : Dc cX2_ruling 25 (.sipush 10900) 3 28 := ⟨by decide +kernel, rfl⟩
theorem eX2_ruling_28 : Dc cX2_ruling 28 (.iload 4) 2 30 := ⟨by decide +kernel, rfl⟩
theorem eX2_ruling_30 : Dc cX2_ruling 30 (.iadd) 1 31 := ⟨by decide +kernel, rfl⟩
theorem eX2_ruling_31 : Dc cX2_ruling 31 (.iaload) 1 32 := ⟨by decide +kernel, rfl⟩
theorem eX2_ruling_32 : Db cX2_ruling 32 (fun o => .if_icmp .ge o) 134 35 := ⟨102, by decide +kernel, by decide, rfl⟩
theorem eX2_ruling_35 : Dc cX2_ruling 35 (.aload_n 0) 1 36 := ⟨by decide +kernel, rfl⟩
theorem eX2_ruling_36 : Dc cX2_ruling 36 (.getfield 8) 3 39 := ⟨by decide +kernel, rfl⟩
theorem eX2_ruling_39 : Dc cX2_ruling 39 (.sipush 9620) 3 42 := ⟨by decide +kernel, rfl⟩
theorem eX2_ruling_42 : Dc cX2_ruling 42 (.iload 4) 2 44 := ⟨by decide +kernel, rfl⟩
theorem eX2_ruling_44 : Dc cX2_ruling 44 (.iadd) 1 45 := ⟨by decide +kernel, rfl⟩
theorem eX2_ruling_45 : Dc cX2_ruling 45 (.iaload) 1 46 := ⟨by decide +kernel, rfl⟩
theorem eX2_ruling_46 : Dc cX2_ruling 46 (.iload_n 2) 1 47 := ⟨by decide +kernel, rfl⟩
theorem eX2_ruling_47 : Db cX2_ruling 47 (fun o => .if_icmp .gt o) 134 50 := ⟨87, by decide +kernel, by decide, rfl⟩
theorem eX2_ruling_50 : Dc cX2_ruling 50 (.aload_n 0) 1 51 := ⟨by decide +kernel, rfl⟩
theorem eX2_ruling_51 : Dc cX2_ruling 51 (.getfield 8) 3 54 := ⟨by decide +kernel, rfl⟩
theorem eX2_ruling_54 : Dc cX2_ruling 54 (.sipush 10910) 3 57 := ⟨by decide +kernel, rfl⟩
theorem eX2_ruling_57 : Dc cX2_ruling 57 (.bipush 8) 2 59 := ⟨by decide +kernel, rfl⟩
theorem eX2_ruling_59 : Dc cX2_ruling 59 (.iload 4) 2 61 := ⟨by decide +kernel, rfl⟩
theorem eX2_ruling_61 : Dc cX2_ruling 61 (.imul) 1 62 := ⟨by decide +kernel, rfl⟩
theorem eX2_ruling_62 : Dc cX2_ruling 62 (.iadd) 1 63 := ⟨by decide +kernel, rfl⟩
theorem eX2_ruling_63 : Dc cX2_ruling 63 (.iload 5) 2 65 := ⟨by decide +kernel, rfl⟩
theorem eX2_ruling_65 : Dc cX2_ruling 65 (.iadd) 1 66 := ⟨by decide +kernel, rfl⟩
theorem eX2_ruling_66 : Dc cX2_ruling 66 (.iaload) 1 67 := ⟨by decide +kernel, rfl⟩
theorem eX2_ruling_67 : Dc cX2_ruling 67 (.iload_n 1) 1 68 := ⟨by decide +kernel, rfl⟩
theorem eX2_ruling_68 : Db cX2_ruling 68 (fun o => .if_icmp .ne o) 107 71 := ⟨39, by decide +kernel, by decide, rfl⟩
theorem eX2_ruling_71 : Dc cX2_ruling 71 (.iload_n 3) 1 72 := ⟨by decide +kernel, rfl⟩
theorem eX2_ruling_72 : Dc cX2_ruling 72 (.iconst (-1)) 1 73 := ⟨by decide +kernel, rfl⟩
theorem eX2_ruling_73 : Db cX2_ruling 73 (fun o => .if_icmp .eq o) 103 76 := ⟨30, by decide +kernel, by decide, rfl⟩
theorem eX2_ruling_76 : Dc cX2_ruling 76 (.aload_n 0) 1 77 := ⟨by decide +kernel, rfl⟩
theorem eX2_ruling_77 : Dc cX2_ruling 77 (.getfield 8) 3 80 := ⟨by decide +kernel, rfl⟩
theorem eX2_ruling_80 : Dc cX2_ruling 80 (.sipush 9620) 3 83 := ⟨by decide +kernel, rfl⟩
theorem eX2_ruling_83 : Dc cX2_ruling 83 (.iload 4) 2 85 := ⟨by decide +kernel, rfl⟩
theorem eX2_ruling_85 : Dc cX2_ruling 85 (.iadd) 1 86 := ⟨by decide +kernel, rfl⟩
theorem eX2_ruling_86 : Dc cX2_ruling 86 (.iaload) 1 87 := ⟨by decide +kernel, rfl⟩
theorem eX2_ruling_87 : Dc cX2_ruling 87 (.aload_n 0) 1 88 := ⟨by decide +kernel, rfl⟩
theorem eX2_ruling_88 : Dc cX2_ruling 88 (.getfield 8) 3 91 := ⟨by decide +kernel, rfl⟩
theorem eX2_ruling_91 : Dc cX2_ruling 91 (.sipush 9620) 3 94 := ⟨by decide +kernel, rfl⟩
theorem eX2_ruling_94 : Dc cX2_ruling 94 (.iload_n 3) 1 95 := ⟨by decide +kernel, rfl⟩
theorem eX2_ruling_95 : Dc cX2_ruling 95 (.bipush 8) 2 97 := ⟨by decide +kernel, rfl⟩
theorem eX2_ruling_97 : Dc cX2_ruling 97 (.idiv) 1 98 := ⟨by decide +kernel, rfl⟩
theorem eX2_ruling_98 : Dc cX2_ruling 98 (.iadd) 1 99 := ⟨by decide +kernel, rfl⟩
theorem eX2_ruling_99 : Dc cX2_ruling 99 (.iaload) 1 100 := ⟨by decide +kernel, rfl⟩
theorem eX2_ruling_100 : Db cX2_ruling 100 (fun o => .if_icmp .lt o) 107 103 := ⟨7, by decide +kernel, by decide, rfl⟩
theorem eX2_ruling_103 : Dc cX2_ruling 103 (.iconst 1) 1 104 := ⟨by decide +kernel, rfl⟩
theorem eX2_ruling_104 : Db cX2_ruling 104 (fun o => .goto o) 108 107 := ⟨4, by decide +kernel, by decide, rfl⟩
theorem eX2_ruling_107 : Dc cX2_ruling 107 (.iconst 0) 1 108 := ⟨by decide +kernel, rfl⟩
theorem eX2_ruling_108 : Dc cX2_ruling 108 (.istore 6) 2 110 := ⟨by decide +kernel, rfl⟩
theorem eX2_ruling_110 : Dc cX2_ruling 110 (.iload 6) 2 112 := ⟨by decide +kernel, rfl⟩
theorem eX2_ruling_112 : Db cX2_ruling 112 (fun o => .ifCond .eq o) 126 115 := ⟨14, by decide +kernel, by decide, rfl⟩
theorem eX2_ruling_115 : Dc cX2_ruling 115 (.bipush 8) 2 117 := ⟨by decide +kernel, rfl⟩
theorem eX2_ruling_117 : Dc cX2_ruling 117 (.iload 4) 2 119 := ⟨by decide +kernel, rfl⟩
theorem eX2_ruling_119 : Dc cX2_ruling 119 (.imul) 1 120 := ⟨by decide +kernel, rfl⟩
theorem eX2_ruling_120 : Dc cX2_ruling 120 (.iload 5) 2 122 := ⟨by decide +kernel, rfl⟩
theorem eX2_ruling_122 : Dc cX2_ruling 122 (.iadd) 1 123 := ⟨by decide +kernel, rfl⟩
theorem eX2_ruling_123 : Db cX2_ruling 123 (fun o => .goto o) 127 126 := ⟨4, by decide +kernel, by decide, rfl⟩
theorem eX2_ruling_126 : Dc cX2_ruling 126 (.iload_n 3) 1 127 := ⟨by decide +kernel, rfl⟩
theorem eX2_ruling_127 : Dc cX2_ruling 127 (.istore_n 3) 1 128 := ⟨by decide +kernel, rfl⟩
theorem eX2_ruling_128 : Dc cX2_ruling 128 (.iinc 5 1) 3 131 := ⟨by decide +kernel, rfl⟩
theorem eX2_ruling_131 : Db cX2_ruling 131 (fun o => .goto o) 19 134 := ⟨-112, by decide +kernel, by decide, rfl⟩
theorem eX2_ruling_134 : Dc cX2_ruling 134 (.iinc 4 1) 3 137 := ⟨by decide +kernel, rfl⟩
theorem eX2_ruling_137 : Db cX2_ruling 137 (fun o => .goto o) 5 140 := ⟨-132, by decide +kernel, by decide, rfl⟩
theorem eX2_ruling_140 : Dc cX2_ruling 140 (.iload_n 3) 1 141 := ⟨by decide +kernel, rfl⟩
theorem eX2_ruling_141 : Dc cX2_ruling 141 (.ireturn) 1 142 := ⟨by decide +kernel, rfl⟩
theorem eX2_why_0 : Dc cX2_why 0 (.iload_n 1) 1 1 := ⟨by decide +kernel, rfl⟩
theorem eX2_why_1 : Dc cX2_why 1 (.iconst 0) 1 2 := ⟨by decide +kernel, rfl⟩
theorem eX2_why_2 : Dc cX2_why 2 (.bipush 6) 2 4 := ⟨by decide +kernel, rfl⟩
theorem eX2_why_4 : Dc cX2_why 4 (.invokestatic 58) 3 7 := ⟨by decide +kernel, rfl⟩
theorem eX2_why_7 : Db cX2_why 7 (fun o => .ifCond .ne o) 12 10 := ⟨5, by decide +kernel, by decide, rfl⟩
theorem eX2_why_10 : Dc cX2_why 10 (.iconst (-1)) 1 11 := ⟨by decide +kernel, rfl⟩
theorem eX2_why_11 : Dc cX2_why 11 (.ireturn) 1 12 := ⟨by decide +kernel, rfl⟩
theorem eX2_why_12 : Dc cX2_why 12 (.iload_n 2) 1 13 := ⟨by decide +kernel, rfl⟩
theorem eX2_why_13 : Dc cX2_why 13 (.invokestatic 141) 3 16 := ⟨by decide +kernel, rfl⟩
theorem eX2_why_16 : Db cX2_why 16 (fun o => .ifCond .ne o) 22 19 := ⟨6, by decide +kernel, by decide, rfl⟩
theorem eX2_why_19 : Dc cX2_why 19 (.bipush (-2)) 2 21 := ⟨by decide +kernel, rfl⟩
theorem eX2_why_21 : Dc cX2_why 21 (.ireturn) 1 22 := ⟨by decide +kernel, rfl⟩
theorem eX2_why_22 : Dc cX2_why 22 (.aload_n 0) 1 23 := ⟨by decide +kernel, rfl⟩
theorem eX2_why_23 : Dc cX2_why 23 (.iload_n 1) 1 24 := ⟨by decide +kernel, rfl⟩
theorem eX2_why_24 : Dc cX2_why 24 (.iload_n 2) 1 25 := ⟨by decide +kernel, rfl⟩
theorem eX2_why_25 : Dc cX2_why 25 (.invokevirtual 148) 3 28 := ⟨by decide +kernel, rfl⟩
theorem eX2_why_28 : Dc cX2_why 28 (.istore_n 3) 1 29 := ⟨by decide +kernel, rfl⟩
theorem eX2_why_29 : Dc cX2_why 29 (.iload_n 3) 1 30 := ⟨by decide +kernel, rfl⟩
theorem eX2_why_30 : Dc cX2_why 30 (.iconst (-1)) 1 31 := ⟨by decide +kernel, rfl⟩
theorem eX2_why_31 : Db cX2_why 31 (fun o => .if_icmp .ne o) 39 34 := ⟨8, by decide +kernel, by decide, rfl⟩
theorem eX2_why_34 : Dc cX2_why 34 (.bipush (-5)) 2 36 := ⟨by decide +kernel, rfl⟩
theorem eX2_why_36 : Db cX2_why 36 (fun o => .goto o) 51 39 := ⟨15, by decide +kernel, by decide, rfl⟩
theorem eX2_why_39 : Dc cX2_why 39 (.bipush 100) 2 41 := ⟨by decide +kernel, rfl⟩
theorem eX2_why_41 : Dc cX2_why 41 (.iload_n 3) 1 42 := ⟨by decide +kernel, rfl⟩
theorem eX2_why_42 : Dc cX2_why 42 (.bipush 8) 2 44 := ⟨by decide +kernel, rfl⟩
theorem eX2_why_44 : Dc cX2_why 44 (.idiv) 1 45 := ⟨by decide +kernel, rfl⟩
theorem eX2_why_45 : Dc cX2_why 45 (.imul) 1 46 := ⟨by decide +kernel, rfl⟩
theorem eX2_why_46 : Dc cX2_why 46 (.iload_n 3) 1 47 := ⟨by decide +kernel, rfl⟩
theorem eX2_why_47 : Dc cX2_why 47 (.bipush 8) 2 49 := ⟨by decide +kernel, rfl⟩
theorem eX2_why_49 : Dc cX2_why 49 (.irem) 1 50 := ⟨by decide +kernel, rfl⟩
theorem eX2_why_50 : Dc cX2_why 50 (.iadd) 1 51 := ⟨by decide +kernel, rfl⟩
theorem eX2_why_51 : Dc cX2_why 51 (.ireturn) 1 52 := ⟨by decide +kernel, rfl⟩
theorem eX2_scheme_0 : Dc cX2_scheme 0 (.aload_n 0) 1 1 := ⟨by decide +kernel, rfl⟩
theorem eX2_scheme_1 : Dc cX2_scheme 1 (.iload_n 1) 1 2 := ⟨by decide +kernel, rfl⟩
theorem eX2_scheme_2 : Dc cX2_scheme 2 (.invokevirtual 155) 3 5 := ⟨by decide +kernel, rfl⟩
theorem eX2_scheme_5 : Db cX2_scheme 5 (fun o => .ifCond .eq o) 16 8 := ⟨11, by decide +kernel, by decide, rfl⟩
theorem eX2_scheme_8 : Dc cX2_scheme 8 (.aload_n 0) 1 9 := ⟨by decide +kernel, rfl⟩
theorem eX2_scheme_9 : Dc cX2_scheme 9 (.iload_n 2) 1 10 := ⟨by decide +kernel, rfl⟩
theorem eX2_scheme_10 : Dc cX2_scheme 10 (.invokevirtual 155) 3 13 := ⟨by decide +kernel, rfl⟩
theorem eX2_scheme_13 : Db cX2_scheme 13 (fun o => .ifCond .ne o) 18 16 := ⟨5, by decide +kernel, by decide, rfl⟩
theorem eX2_scheme_16 : Dc cX2_scheme 16 (.iconst (-1)) 1 17 := ⟨by decide +kernel, rfl⟩
theorem eX2_scheme_17 : Dc cX2_scheme 17 (.ireturn) 1 18 := ⟨by decide +kernel, rfl⟩
theorem eX2_scheme_18 : Dc cX2_scheme 18 (.iload_n 1) 1 19 := ⟨by decide +kernel, rfl⟩
theorem eX2_scheme_19 : Dc cX2_scheme 19 (.iload_n 2) 1 20 := ⟨by decide +kernel, rfl⟩
theorem eX2_scheme_20 : Db cX2_scheme 20 (fun o => .if_icmp .eq o) 43 23 := ⟨23, by decide +kernel, by decide, rfl⟩
theorem eX2_scheme_23 : Dc cX2_scheme 23 (.iload_n 3) 1 24 := ⟨by decide +kernel, rfl⟩
theorem eX2_scheme_24 : Dc cX2_scheme 24 (.iconst 0) 1 25 := ⟨by decide +kernel, rfl⟩
theorem eX2_scheme_25 : Dc cX2_scheme 25 (.iconst 1) 1 26 := ⟨by decide +kernel, rfl⟩
theorem eX2_scheme_26 : Dc cX2_scheme 26 (.invokestatic 58) 3 29 := ⟨by decide +kernel, rfl⟩
theorem eX2_scheme_29 : Db cX2_scheme 29 (fun o => .ifCond .eq o) 43 32 := ⟨14, by decide +kernel, by decide, rfl⟩
theorem eX2_scheme_32 : Dc cX2_scheme 32 (.iload 4) 2 34 := ⟨by decide +kernel, rfl⟩
theorem eX2_scheme_34 : Dc cX2_scheme 34 (.iconst 1) 1 35 := ⟨by decide +kernel, rfl⟩
theorem eX2_scheme_35 : Dc cX2_scheme 35 (.bipush 99) 2 37 := ⟨by decide +kernel, rfl⟩
theorem eX2_scheme_37 : Dc cX2_scheme 37 (.invokestatic 58) 3 40 := ⟨by decide +kernel, rfl⟩
theorem eX2_scheme_40 : Db cX2_scheme 40 (fun o => .ifCond .ne o) 46 43 := ⟨6, by decide +kernel, by decide, rfl⟩
theorem eX2_scheme_43 : Dc cX2_scheme 43 (.bipush (-2)) 2 45 := ⟨by decide +kernel, rfl⟩
theorem eX2_scheme_45 : Dc cX2_scheme 45 (.ireturn) 1 46 := ⟨by decide +kernel, rfl⟩
theorem eX2_scheme_46 : Dc cX2_scheme 46 (.aload_n 0) 1 47 := ⟨by decide +kernel, rfl⟩
theorem eX2_scheme_47 : Dc cX2_scheme 47 (.getfield 8) 3 50 := ⟨by decide +kernel, rfl⟩
theorem eX2_scheme_50 : Dc cX2_scheme 50 (.iconst 2) 1 51 := ⟨by decide +kernel, rfl⟩
theorem eX2_scheme_51 : Dc cX2_scheme 51 (.iaload) 1 52 := ⟨by decide +kernel, rfl⟩
theorem eX2_scheme_52 : Dc cX2_scheme 52 (.bipush 60) 2 54 := ⟨by decide +kernel, rfl⟩
theorem eX2_scheme_54 : Db cX2_scheme 54 (fun o => .if_icmp .eq o) 69 57 := ⟨15, by decide +kernel, by decide, rfl⟩
theorem eX2_scheme_57 : Dc cX2_scheme 57 (.aload_n 0) 1 58 := ⟨by decide +kernel, rfl⟩
theorem eX2_scheme_58 : Dc cX2_scheme 58 (.getfield 8) 3 61 := ⟨by decide +kernel, rfl⟩
theorem eX2_scheme_61 : Dc cX2_scheme 61 (.bipush 9) 2 63 := ⟨by decide +kernel, rfl⟩
theorem eX2_scheme_63 : Dc cX2_scheme 63 (.iaload) 1 64 := ⟨by decide +kernel, rfl⟩
theorem eX2_scheme_64 : Dc cX2_scheme 64 (.bipush 12) 2 66 := ⟨by decide +kernel, rfl⟩
theorem eX2_scheme_66 : Db cX2_scheme 66 (fun o => .if_icmp .ne o) 72 69 := ⟨6, by decide +kernel, by decide, rfl⟩
theorem eX2_scheme_69 : Dc cX2_scheme 69 (.bipush (-4)) 2 71 := ⟨by decide +kernel, rfl⟩
theorem eX2_scheme_71 : Dc cX2_scheme 71 (.ireturn) 1 72 := ⟨by decide +kernel, rfl⟩
theorem eX2_scheme_72 : Dc cX2_scheme 72 (.aload_n 0) 1 73 := ⟨by decide +kernel, rfl⟩
theorem eX2_scheme_73 : Dc cX2_scheme 73 (.getfield 8) 3 76 := ⟨by decide +kernel, rfl⟩
theorem eX2_scheme_76 : Dc cX2_scheme 76 (.bipush 9) 2 78 := ⟨by decide +kernel, rfl⟩
theorem eX2_scheme_78 : Dc cX2_scheme 78 (.iaload) 1 79 := ⟨by decide +kernel, rfl⟩
theorem eX2_scheme_79 : Dc cX2_scheme 79 (.istore 5) 2 81 := ⟨by decide +kernel, rfl⟩
theorem eX2_scheme_81 : Dc cX2_scheme 81 (.aload_n 0) 1 82 := ⟨by decide +kernel, rfl⟩
theorem eX2_scheme_82 : Dc cX2_scheme 82 (.getfield 8) 3 85 := ⟨by decide +kernel, rfl⟩
theorem eX2_scheme_85 : Dc cX2_scheme 85 (.bipush 9) 2 87 := ⟨by decide +kernel, rfl⟩
theorem eX2_scheme_87 : Dc cX2_scheme 87 (.dup2) 1 88 := ⟨by decide +kernel, rfl⟩
theorem eX2_scheme_88 : Dc cX2_scheme 88 (.iaload) 1 89 := ⟨by decide +kernel, rfl⟩
theorem eX2_scheme_89 : Dc cX2_scheme 89 (.iconst 1) 1 90 := ⟨by decide +kernel, rfl⟩
theorem eX2_scheme_90 : Dc cX2_scheme 90 (.iadd) 1 91 := ⟨by decide +kernel, rfl⟩
theorem eX2_scheme_91 : Dc cX2_scheme 91 (.iastore) 1 92 := ⟨by decide +kernel, rfl⟩
theorem eX2_scheme_92 : Dc cX2_scheme 92 (.aload_n 0) 1 93 := ⟨by decide +kernel, rfl⟩
theorem eX2_scheme_93 : Dc cX2_scheme 93 (.iconst 1) 1 94 := ⟨by decide +kernel, rfl⟩
theorem eX2_scheme_94 : Dc cX2_scheme 94 (.iconst (-1)) 1 95 := ⟨by decide +kernel, rfl⟩
theorem eX2_scheme_95 : Dc cX2_scheme 95 (.iload_n 1) 1 96 := ⟨by decide +kernel, rfl⟩
theorem eX2_scheme_96 : Dc cX2_scheme 96 (.iload_n 2) 1 97 := ⟨by decide +kernel, rfl⟩
theorem eX2_scheme_97 : Dc cX2_scheme 97 (.iload_n 3) 1 98 := ⟨by decide +kernel, rfl⟩
theorem eX2_scheme_98 : Dc cX2_scheme 98 (.iload 4) 2 100 := ⟨by decide +kernel, rfl⟩
theorem eX2_scheme_100 : Dc cX2_scheme 100 (.invokevirtual 158) 3 103 := ⟨by decide +kernel, rfl⟩
theorem eX2_scheme_103 : Dc cX2_scheme 103 (.istore 6) 2 105 := ⟨by decide +kernel, rfl⟩
theorem eX2_scheme_105 : Dc cX2_scheme 105 (.aload_n 0) 1 106 := ⟨by decide +kernel, rfl⟩
theorem eX2_scheme_106 : Dc cX2_scheme 106 (.getfield 8) 3 109 := ⟨by decide +kernel, rfl⟩
theorem eX2_scheme_109 : Dc cX2_scheme 109 (.sipush 11490) 3 112 := ⟨by decide +kernel, rfl⟩
theorem eX2_scheme_112 : Dc cX2_scheme 112 (.iload 5) 2 114 := ⟨by decide +kernel, rfl⟩
theorem eX2_scheme_114 : Dc cX2_scheme 114 (.iadd) 1 115 := ⟨by decide +kernel, rfl⟩
theorem eX2_scheme_115 : Dc cX2_scheme 115 (.iload 6) 2 117 := ⟨by decide +kernel, rfl⟩
theorem eX2_scheme_117 : Dc cX2_scheme 117 (.iastore) 1 118 := ⟨by decide +kernel, rfl⟩
theorem eX2_scheme_118 : Dc cX2_scheme 118 (.aload_n 0) 1 119 := ⟨by decide +kernel, rfl⟩
theorem eX2_scheme_119 : Dc cX2_scheme 119 (.getfield 8) 3 122 := ⟨by decide +kernel, rfl⟩
theorem eX2_scheme_122 : Dc cX2_scheme 122 (.sipush 11502) 3 125 := ⟨by decide +kernel, rfl⟩
theorem eX2_scheme_125 : Dc cX2_scheme 125 (.iload 5) 2 127 := ⟨by decide +kernel, rfl⟩
theorem eX2_scheme_127 : Dc cX2_scheme 127 (.iadd) 1 128 := ⟨by decide +kernel, rfl⟩
theorem eX2_scheme_128 : Dc cX2_scheme 128 (.iconst 0) 1 129 := ⟨by decide +kernel, rfl⟩
theorem eX2_scheme_129 : Dc cX2_scheme 129 (.iastore) 1 130 := ⟨by decide +kernel, rfl⟩
theorem eX2_scheme_130 : Dc cX2_scheme 130 (.aload_n 0) 1 131 := ⟨by decide +kernel, rfl⟩
theorem eX2_scheme_131 : Dc cX2_scheme 131 (.getfield 8) 3 134 := ⟨by decide +kernel, rfl⟩
theorem eX2_scheme_134 : Dc cX2_scheme 134 (.sipush 11514) 3 137 := ⟨by decide +kernel, rfl⟩
theorem eX2_scheme_137 : Dc cX2_scheme 137 (.iload 5) 2 139 := ⟨by decide +kernel, rfl⟩
theorem eX2_scheme_139 : Dc cX2_scheme 139 (.iadd) 1 140 := ⟨by decide +kernel, rfl⟩
theorem eX2_scheme_140 : Dc cX2_scheme 140 (.bipush (-5)) 2 142 := ⟨by decide +kernel, rfl⟩
theorem eX2_scheme_142 : Dc cX2_scheme 142 (.iastore) 1 143 := ⟨by decide +kernel, rfl⟩
theorem eX2_scheme_143 : Dc cX2_scheme 143 (.iconst 0) 1 144 := ⟨by decide +kernel, rfl⟩
theorem eX2_scheme_144 : Dc cX2_scheme 144 (.istore 7) 2 146 := ⟨by decide +kernel, rfl⟩
theorem eX2_scheme_146 : Dc cX2_scheme 146 (.iload 7) 2 148 := ⟨by decide +kernel, rfl⟩
theorem eX2_scheme_148 : Dc cX2_scheme 148 (.bipush 9) 2 150 := ⟨by decide +kernel, rfl⟩
theorem eX2_scheme_150 : Db cX2_scheme 150 (fun o => .if_icmp .ge o) 189 153 := ⟨39, by decide +kernel, by decide, rfl⟩
theorem eX2_scheme_153 : Dc cX2_scheme 153 (.aload_n 0) 1 154 := ⟨by decide +kernel, rfl⟩
theorem eX2_scheme_154 : Dc cX2_scheme 154 (.getfield 8) 3 157 := ⟨by decide +kernel, rfl⟩
theorem eX2_scheme_157 : Dc cX2_scheme 157 (.sipush 11530) 3 160 := ⟨by decide +kernel, rfl⟩
theorem eX2_scheme_160 : Dc cX2_scheme 160 (.bipush 9) 2 162 := ⟨by decide +kernel, rfl⟩
theorem eX2_scheme_162 : Dc cX2_scheme 162 (.iload 5) 2 164 := ⟨by decide +kernel, rfl⟩
theorem eX2_scheme_164 : Dc cX2_scheme 164 (.imul) 1 165 := ⟨by decide +kernel, rfl⟩
theorem eX2_scheme_165 : Dc cX2_scheme 165 (.iadd) 1 166 := ⟨by decide +kernel, rfl⟩
theorem eX2_scheme_166 : Dc cX2_scheme 166 (.iload 7) 2 168 := ⟨by decide +kernel, rfl⟩
theorem eX2_scheme_168 : Dc cX2_scheme 168 (.iadd) 1 169 := ⟨by decide +kernel, rfl⟩
theorem eX2_scheme_169 : Dc cX2_scheme 169 (.iload 7) 2 171 := ⟨by decide +kernel, rfl⟩
theorem eX2_scheme_171 : Dc cX2_scheme 171 (.bipush 8) 2 173 := ⟨by decide +kernel, rfl⟩
theorem eX2_scheme_173 : Db cX2_scheme 173 (fun o => .if_icmp .ne o) 181 176 := ⟨8, by decide +kernel, by decide, rfl⟩
theorem eX2_scheme_176 : Dc cX2_scheme 176 (.iload 4) 2 178 := ⟨by decide +kernel, rfl⟩
theorem eX2_scheme_178 : Db cX2_scheme 178 (fun o => .goto o) 182 181 := ⟨4, by decide +kernel, by decide, rfl⟩
theorem eX2_scheme_181 : Dc cX2_scheme 181 (.iconst 0) 1 182 := ⟨by decide +kernel, rfl⟩
theorem eX2_scheme_182 : Dc cX2_scheme 182 (.iastore) 1 183 := ⟨by decide +kernel, rfl⟩
theorem eX2_scheme_183 : Dc cX2_scheme 183 (.iinc 7 1) 3 186 := ⟨by decide +kernel, rfl⟩
theorem eX2_scheme_186 : Db cX2_scheme 186 (fun o => .goto o) 146 189 := ⟨-40, by decide +kernel, by decide, rfl⟩
theorem eX2_scheme_189 : Dc cX2_scheme 189 (.iload 6) 2 191 := ⟨by decide +kernel, rfl⟩
theorem eX2_scheme_191 : Dc cX2_scheme 191 (.ireturn) 1 192 := ⟨by decide +kernel, rfl⟩
theorem eX2_isTown_0 : Dc cX2_isTown 0 (.iload_n 1) 1 1 := ⟨by decide +kernel, rfl⟩
theorem eX2_isTown_1 : Dc cX2_isTown 1 (.iconst 0) 1 2 := ⟨by decide +kernel, rfl⟩
theorem eX2_isTown_2 : Dc cX2_isTown 2 (.aload_n 0) 1 3 := ⟨by decide +kernel, rfl⟩
theorem eX2_isTown_3 : Dc cX2_isTown 3 (.getfield 8) 3 6 := ⟨by decide +kernel, rfl⟩
theorem eX2_isTown_6 : Dc cX2_isTown 6 (.iconst 1) 1 7 := ⟨by decide +kernel, rfl⟩
theorem eX2_isTown_7 : Dc cX2_isTown 7 (.iaload) 1 8 := ⟨by decide +kernel, rfl⟩
theorem eX2_isTown_8 : Dc cX2_isTown 8 (.iconst 1) 1 9 := ⟨by decide +kernel, rfl⟩
theorem eX2_isTown_9 : Dc cX2_isTown 9 (.isub) 1 10 := ⟨by decide +kernel, rfl⟩
theorem eX2_isTown_10 : Dc cX2_isTown 10 (.invokestatic 58) 3 13 := ⟨by decide +kernel, rfl⟩
theorem eX2_isTown_13 : Dc cX2_isTown 13 (.ireturn) 1 14 := ⟨by decide +kernel, rfl⟩
theorem eX2_paper_0 : Dc cX2_paper 0 (.aload_n 0) 1 1 := ⟨by decide +kernel, rfl⟩
theorem eX2_paper_1 : Dc cX2_paper 1 (.getfield 8) 3 4 := ⟨by decide +kernel, rfl⟩
theorem eX2_paper_4 : Dc cX2_paper 4 (.iconst 2) 1 5 := ⟨by decide +kernel, rfl⟩
theorem eX2_paper_5 : Dc cX2_paper 5 (.iaload) 1 6 := ⟨by decide +kernel, rfl⟩
theorem eX2_paper_6 : Dc cX2_paper 6 (.istore 7) 2 8 := ⟨by decide +kernel, rfl⟩
theorem eX2_paper_8 : Dc cX2_paper 8 (.aload_n 0) 1 9 := ⟨by decide +kernel, rfl⟩
theorem eX2_paper_9 : Dc cX2_paper 9 (.getfield 8) 3 12 := ⟨by decide +kernel, rfl⟩
theorem eX2_paper_12 : Dc cX2_paper 12 (.sipush 370) 3 15 := ⟨by decide +kernel, rfl⟩
theorem eX2_paper_15 : Dc cX2_paper 15 (.iload 7) 2 17 := ⟨by decide +kernel, rfl⟩
theorem eX2_paper_17 : Dc cX2_paper 17 (.iadd) 1 18 := ⟨by decide +kernel, rfl⟩
theorem eX2_paper_18 : Dc cX2_paper 18 (.iload_n 1) 1 19 := ⟨by decide +kernel, rfl⟩
theorem eX2_paper_19 : Dc cX2_paper 19 (.iastore) 1 20 := ⟨by decide +kernel, rfl⟩
theorem eX2_paper_20 : Dc cX2_paper 20 (.aload_n 0) 1 21 := ⟨by decide +kernel, rfl⟩
theorem eX2_paper_21 : Dc cX2_paper 21 (.getfield 8) 3 24 := ⟨by decide +kernel, rfl⟩
theorem eX2_paper_24 : Dc cX2_paper 24 (.sipush 430) 3 27 := ⟨by decide +kernel, rfl⟩
theorem eX2_paper_27 : Dc cX2_paper 27 (.iload 7) 2 29 := ⟨by decide +kernel, rfl⟩
theorem eX2_paper_29 : Dc cX2_paper 29 (.iadd) 1 30 := ⟨by decide +kernel, rfl⟩
theorem eX2_paper_30 : Dc cX2_paper 30 (.iload_n 2) 1 31 := ⟨by decide +kernel, rfl⟩
theorem eX2_paper_31 : Dc cX2_paper 31 (.iastore) 1 32 := ⟨by decide +kernel, rfl⟩
theorem eX2_paper_32 : Dc cX2_paper 32 (.aload_n 0) 1 33 := ⟨by decide +kernel, rfl⟩
theorem eX2_paper_33 : Dc cX2_paper 33 (.getfield 8) 3 36 := ⟨by decide +kernel, rfl⟩
theorem eX2_paper_36 : Dc cX2_paper 36 (.sipush 490) 3 39 := ⟨by decide +kernel, rfl⟩
theorem eX2_paper_39 : Dc cX2_paper 39 (.iload 7) 2 41 := ⟨by decide +kernel, rfl⟩
theorem eX2_paper_41 : Dc cX2_paper 41 (.iadd) 1 42 := ⟨by decide +kernel, rfl⟩
theorem eX2_paper_42 : Dc cX2_paper 42 (.aload_n 0) 1 43 := ⟨by decide +kernel, rfl⟩
theorem eX2_paper_43 : Dc cX2_paper 43 (.getfield 8) 3 46 := ⟨by decide +kernel, rfl⟩
theorem eX2_paper_46 : Dc cX2_paper 46 (.iconst 0) 1 47 := ⟨by decide +kernel, rfl⟩
theorem eX2_paper_47 : Dc cX2_paper 47 (.iaload) 1 48 := ⟨by decide +kernel, rfl⟩
theorem eX2_paper_48 : Dc cX2_paper 48 (.iastore) 1 49 := ⟨by decide +kernel, rfl⟩
theorem eX2_paper_49 : Dc cX2_paper 49 (.aload_n 0) 1 50 := ⟨by decide +kernel, rfl⟩
theorem eX2_paper_50 : Dc cX2_paper 50 (.getfield 8) 3 53 := ⟨by decide +kernel, rfl⟩
theorem eX2_paper_53 : Dc cX2_paper 53 (.sipush 550) 3 56 := ⟨by decide +kernel, rfl⟩
theorem eX2_paper_56 : Dc cX2_paper 56 (.iload 7) 2 58 := ⟨by decide +kernel, rfl⟩
theorem eX2_paper_58 : Dc cX2_paper 58 (.iadd) 1 59 := ⟨by decide +kernel, rfl⟩
theorem eX2_paper_59 : Dc cX2_paper 59 (.iload_n 3) 1 60 := ⟨by decide +kernel, rfl⟩
theorem eX2_paper_60 : Dc cX2_paper 60 (.iastore) 1 61 := ⟨by decide +kernel, rfl⟩
theorem eX2_paper_61 : Dc cX2_paper 61 (.aload_n 0) 1 62 := ⟨by decide +kernel, rfl⟩
theorem eX2_paper_62 : Dc cX2_paper 62 (.getfield 8) 3 65 := ⟨by decide +kernel, rfl⟩
theorem eX2_paper_65 : Dc cX2_paper 65 (.sipush 610) 3 68 := ⟨by decide +kernel, rfl⟩
theorem eX2_paper_68 : Dc cX2_paper 68 (.iload 7) 2 70 := ⟨by decide +kernel, rfl⟩
theorem eX2_paper_70 : Dc cX2_paper 70 (.iadd) 1 71 := ⟨by decide +kernel, rfl⟩
theorem eX2_paper_71 : Dc cX2_paper 71 (.iload 4) 2 73 := ⟨by decide +kernel, rfl⟩
theorem eX2_paper_73 : Dc cX2_paper 73 (.iastore) 1 74 := ⟨by decide +kernel, rfl⟩
theorem eX2_paper_74 : Dc cX2_paper 74 (.aload_n 0) 1 75 := ⟨by decide +kernel, rfl⟩
theorem eX2_paper_75 : Dc cX2_paper 75 (.getfield 8) 3 78 := ⟨by decide +kernel, rfl⟩
theorem eX2_paper_78 : Dc cX2_paper 78 (.sipush 670) 3 81 := ⟨by decide +kernel, rfl⟩
theorem eX2_paper_81 : Dc cX2_paper 81 (.iload 7) 2 83 := ⟨by decide +kernel, rfl⟩
theorem eX2_paper_83 : Dc cX2_paper 83 (.iadd) 1 84 := ⟨by decide +kernel, rfl⟩
theorem eX2_paper_84 : Dc cX2_paper 84 (.iload 5) 2 86 := ⟨by decide +kernel, rfl⟩
theorem eX2_paper_86 : Dc cX2_paper 86 (.iastore) 1 87 := ⟨by decide +kernel, rfl⟩
theorem eX2_paper_87 : Dc cX2_paper 87 (.aload_n 0) 1 88 := ⟨by decide +kernel, rfl⟩
theorem eX2_paper_88 : Dc cX2_paper 88 (.getfield 8) 3 91 := ⟨by decide +kernel, rfl⟩
theorem eX2_paper_91 : Dc cX2_paper 91 (.sipush 730) 3 94 := ⟨by decide +kernel, rfl⟩
theorem eX2_paper_94 : Dc cX2_paper 94 (.iload 7) 2 96 := ⟨by decide +kernel, rfl⟩
theorem eX2_paper_96 : Dc cX2_paper 96 (.iadd) 1 97 := ⟨by decide +kernel, rfl⟩
theorem eX2_paper_97 : Dc cX2_paper 97 (.iload 6) 2 99 := ⟨by decide +kernel, rfl⟩
theorem eX2_paper_99 : Dc cX2_paper 99 (.iastore) 1 100 := ⟨by decide +kernel, rfl⟩
theorem eX2_paper_100 : Dc cX2_paper 100 (.aload_n 0) 1 101 := ⟨by decide +kernel, rfl⟩
theorem eX2_paper_101 : Dc cX2_paper 101 (.getfield 8) 3 104 := ⟨by decide +kernel, rfl⟩
theorem eX2_paper_104 : Dc cX2_paper 104 (.sipush 790) 3 107 := ⟨by decide +kernel, rfl⟩
theorem eX2_paper_107 : Dc cX2_paper 107 (.iload 7) 2 109 := ⟨by decide +kernel, rfl⟩
theorem eX2_paper_109 : Dc cX2_paper 109 (.iadd) 1 110 := ⟨by decide +kernel, rfl⟩
theorem eX2_paper_110 : Dc cX2_paper 110 (.iconst 0) 1 111 := ⟨by decide +kernel, rfl⟩
theorem eX2_paper_111 : Dc cX2_paper 111 (.iastore) 1 112 := ⟨by decide +kernel, rfl⟩
theorem eX2_paper_112 : Dc cX2_paper 112 (.aload_n 0) 1 113 := ⟨by decide +kernel, rfl⟩
theorem eX2_paper_113 : Dc cX2_paper 113 (.getfield 8) 3 116 := ⟨by decide +kernel, rfl⟩
theorem eX2_paper_116 : Dc cX2_paper 116 (.iconst 2) 1 117 := ⟨by decide +kernel, rfl⟩
theorem eX2_paper_117 : Dc cX2_paper 117 (.dup2) 1 118 := ⟨by decide +kernel, rfl⟩
theorem eX2_paper_118 : Dc cX2_paper 118 (.iaload) 1 119 := ⟨by decide +kernel, rfl⟩
theorem eX2_paper_119 : Dc cX2_paper 119 (.iconst 1) 1 120 := ⟨by decide +kernel, rfl⟩
theorem eX2_paper_120 : Dc cX2_paper 120 (.iadd) 1 121 := ⟨by decide +kernel, rfl⟩
theorem eX2_paper_121 : Dc cX2_paper 121 (.iastore) 1 122 := ⟨by decide +kernel, rfl⟩
theorem eX2_paper_122 : Dc cX2_paper 122 (.iload 7) 2 124 := ⟨by decide +kernel, rfl⟩
theorem eX2_paper_124 : Dc cX2_paper 124 (.ireturn) 1 125 := ⟨by decide +kernel, rfl⟩
