set_option maxRecDepth 100000
theorem eX0_land_0 : Dc cX0_land 0 (.iload_n 1) 1 1 := ⟨by decide +kernel, rfl⟩
theorem eX0_land_1 : Dc cX0_land 1 (.invokestatic 24) 3 4 := ⟨by decide +kernel, rfl⟩
theorem eX0_land_4 : Db cX0_land 4 (fun o => .ifCond .eq o) 16 7 := ⟨12, by decide +kernel, by decide, rfl⟩
theorem eX0_land_7 : Dc cX0_land 7 (.iload_n 2) 1 8 := ⟨by decide +kernel, rfl⟩
theorem eX0_land_8 : Dc cX0_land 8 (.iconst 0) 1 9 := ⟨by decide +kernel, rfl⟩
theorem eX0_land_9 : Dc cX0_land 9 (.iconst 1) 1 10 := ⟨by decide +kernel, rfl⟩
theorem eX0_land_10 : Dc cX0_land 10 (.invokestatic 3) 3 13 := ⟨by decide +kernel, rfl⟩
theorem eX0_land_13 : Db cX0_land 13 (fun o => .ifCond .ne o) 18 16 := ⟨5, by decide +kernel, by decide, rfl⟩
theorem eX0_land_16 : Dc cX0_land 16 (.iconst (-1)) 1 17 := ⟨by decide +kernel, rfl⟩
theorem eX0_land_17 : Dc cX0_land 17 (.ireturn) 1 18 := ⟨by decide +kernel, rfl⟩
theorem eX0_land_18 : Dc cX0_land 18 (.iload_n 3) 1 19 := ⟨by decide +kernel, rfl⟩
theorem eX0_land_19 : Dc cX0_land 19 (.iconst 0) 1 20 := ⟨by decide +kernel, rfl⟩
theorem eX0_land_20 : Dc cX0_land 20 (.iload_n 2) 1 21 := ⟨by decide +kernel, rfl⟩
theorem eX0_land_21 : Db cX0_land 21 (fun o => .ifCond .ne o) 29 24 := ⟨8, by decide +kernel, by decide, rfl⟩
theorem eX0_land_24 : Dc cX0_land 24 (.bipush 99) 2 26 := ⟨by decide +kernel, rfl⟩
theorem eX0_land_26 : Db cX0_land 26 (fun o => .goto o) 30 29 := ⟨4, by decide +kernel, by decide, rfl⟩
theorem eX0_land_29 : Dc cX0_land 29 (.iconst 2) 1 30 := ⟨by decide +kernel, rfl⟩
theorem eX0_land_30 : Dc cX0_land 30 (.invokestatic 3) 3 33 := ⟨by decide +kernel, rfl⟩
theorem eX0_land_33 : Db cX0_land 33 (fun o => .ifCond .ne o) 39 36 := ⟨6, by decide +kernel, by decide, rfl⟩
theorem eX0_land_36 : Dc cX0_land 36 (.bipush (-2)) 2 38 := ⟨by decide +kernel, rfl⟩
theorem eX0_land_38 : Dc cX0_land 38 (.ireturn) 1 39 := ⟨by decide +kernel, rfl⟩
theorem eX0_land_39 : Dc cX0_land 39 (.iload_n 2) 1 40 := ⟨by decide +kernel, rfl⟩
theorem eX0_land_40 : Db cX0_land 40 (fun o => .ifCond .ne o) 50 43 := ⟨10, by decide +kernel, by decide, rfl⟩
theorem eX0_land_43 : Dc cX0_land 43 (.aload_n 0) 1 44 := ⟨by decide +kernel, rfl⟩
theorem eX0_land_44 : Dc cX0_land 44 (.getfield 13) 3 47 := ⟨by decide +kernel, rfl⟩
theorem eX0_land_47 : Db cX0_land 47 (fun o => .goto o) 54 50 := ⟨7, by decide +kernel, by decide, rfl⟩
theorem eX0_land_50 : Dc cX0_land 50 (.aload_n 0) 1 51 := ⟨by decide +kernel, rfl⟩
theorem eX0_land_51 : Dc cX0_land 51 (.getfield 21) 3 54 := ⟨by decide +kernel, rfl⟩
theorem eX0_land_54 : Dc cX0_land 54 (.astore 4) 2 56 := ⟨by decide +kernel, rfl⟩
theorem eX0_land_56 : Dc cX0_land 56 (.aload 4) 2 58 := ⟨by decide +kernel, rfl⟩
theorem eX0_land_58 : Dc cX0_land 58 (.iload_n 1) 1 59 := ⟨by decide +kernel, rfl⟩
theorem eX0_land_59 : Dc cX0_land 59 (.iaload) 1 60 := ⟨by decide +kernel, rfl⟩
theorem eX0_land_60 : Dc cX0_land 60 (.istore 5) 2 62 := ⟨by decide +kernel, rfl⟩
theorem eX0_land_62 : Dc cX0_land 62 (.aload 4) 2 64 := ⟨by decide +kernel, rfl⟩
theorem eX0_land_64 : Dc cX0_land 64 (.iload_n 1) 1 65 := ⟨by decide +kernel, rfl⟩
theorem eX0_land_65 : Dc cX0_land 65 (.iload_n 3) 1 66 := ⟨by decide +kernel, rfl⟩
theorem eX0_land_66 : Dc cX0_land 66 (.iastore) 1 67 := ⟨by decide +kernel, rfl⟩
theorem eX0_land_67 : Dc cX0_land 67 (.iload 5) 2 69 := ⟨by decide +kernel, rfl⟩
theorem eX0_land_69 : Dc cX0_land 69 (.ireturn) 1 70 := ⟨by decide +kernel, rfl⟩
theorem eX0_isCell_0 : Dc cX0_isCell 0 (.iload_n 0) 1 1 := ⟨by decide +kernel, rfl⟩
theorem eX0_isCell_1 : Dc cX0_isCell 1 (.iconst 0) 1 2 := ⟨by decide +kernel, rfl⟩
theorem eX0_isCell_2 : Dc cX0_isCell 2 (.bipush 79) 2 4 := ⟨by decide +kernel, rfl⟩
theorem eX0_isCell_4 : Dc cX0_isCell 4 (.invokestatic 3) 3 7 := ⟨by decide +kernel, rfl⟩
theorem eX0_isCell_7 : Dc cX0_isCell 7 (.ireturn) 1 8 := ⟨by decide +kernel, rfl⟩
theorem eX0_in_0 : Dc cX0_in 0 (.iload_n 0) 1 1 := ⟨by decide +kernel, rfl⟩
theorem eX0_in_1 : Dc cX0_in 1 (.iload_n 1) 1 2 := ⟨by decide +kernel, rfl⟩
theorem eX0_in_2 : Db cX0_in 2 (fun o => .if_icmp .lt o) 14 5 := ⟨12, by decide +kernel, by decide, rfl⟩
theorem eX0_in_5 : Dc cX0_in 5 (.iload_n 0) 1 6 := ⟨by decide +kernel, rfl⟩
theorem eX0_in_6 : Dc cX0_in 6 (.iload_n 2) 1 7 := ⟨by decide +kernel, rfl⟩
theorem eX0_in_7 : Db cX0_in 7 (fun o => .if_icmp .gt o) 14 10 := ⟨7, by decide +kernel, by decide, rfl⟩
theorem eX0_in_10 : Dc cX0_in 10 (.iconst 1) 1 11 := ⟨by decide +kernel, rfl⟩
theorem eX0_in_11 : Db cX0_in 11 (fun o => .goto o) 15 14 := ⟨4, by decide +kernel, by decide, rfl⟩
theorem eX0_in_14 : Dc cX0_in 14 (.iconst 0) 1 15 := ⟨by decide +kernel, rfl⟩
theorem eX0_in_15 : Dc cX0_in 15 (.ireturn) 1 16 := ⟨by decide +kernel, rfl⟩
theorem eX0_town_0 : Dc cX0_town 0 (.iload_n 1) 1 1 := ⟨by decide +kernel, rfl⟩
theorem eX0_town_1 : Dc cX0_town 1 (.invokestatic 24) 3 4 := ⟨by decide +kernel, rfl⟩
theorem eX0_town_4 : Db cX0_town 4 (fun o => .ifCond .ne o) 9 7 := ⟨5, by decide +kernel, by decide, rfl⟩
theorem eX0_town_7 : Dc cX0_town 7 (.iconst (-1)) 1 8 := ⟨by decide +kernel, rfl⟩
theorem eX0_town_8 : Dc cX0_town 8 (.ireturn) 1 9 := ⟨by decide +kernel, rfl⟩
theorem eX0_town_9 : Dc cX0_town 9 (.iload_n 2) 1 10 := ⟨by decide +kernel, rfl⟩
theorem eX0_town_10 : Dc cX0_town 10 (.iconst 0) 1 11 := ⟨by decide +kernel, rfl⟩
theorem eX0_town_11 : Dc cX0_town 11 (.bipush 99) 2 13 := ⟨by decide +kernel, rfl⟩
theorem eX0_town_13 : Dc cX0_town 13 (.invokestatic 3) 3 16 := ⟨by decide +kernel, rfl⟩
theorem eX0_town_16 : Db cX0_town 16 (fun o => .ifCond .ne o) 22 19 := ⟨6, by decide +kernel, by decide, rfl⟩
theorem eX0_town_19 : Dc cX0_town 19 (.bipush (-2)) 2 21 := ⟨by decide +kernel, rfl⟩
theorem eX0_town_21 : Dc cX0_town 21 (.ireturn) 1 22 := ⟨by decide +kernel, rfl⟩
theorem eX0_town_22 : Dc cX0_town 22 (.iconst 0) 1 23 := ⟨by decide +kernel, rfl⟩
theorem eX0_town_23 : Dc cX0_town 23 (.istore_n 3) 1 24 := ⟨by decide +kernel, rfl⟩
theorem eX0_town_24 : Dc cX0_town 24 (.iload_n 3) 1 25 := ⟨by decide +kernel, rfl⟩
theorem eX0_town_25 : Dc cX0_town 25 (.aload_n 0) 1 26 := ⟨by decide +kernel, rfl⟩
theorem eX0_town_26 : Dc cX0_town 26 (.getfield 28) 3 29 := ⟨by decide +kernel, rfl⟩
theorem eX0_town_29 : Dc cX0_town 29 (.invokevirtual 32) 3 32 := ⟨by decide +kernel, rfl⟩
theorem eX0_town_32 : Db cX0_town 32 (fun o => .if_icmp .ge o) 62 35 := ⟨30, by decide +kernel, by decide, rfl⟩
theorem eX0_town_35 : Dc cX0_town 35 (.aload_n 0) 1 36 := ⟨by decide +kernel, rfl⟩
theorem eX0_town_36 : Dc cX0_town 36 (.getfield 28) 3 39 := ⟨by decide +kernel, rfl⟩
theorem eX0_town_39 : Dc cX0_town 39 (.iload_n 3) 1 40 := ⟨by decide +kernel, rfl⟩
theorem eX0_town_40 : Dc cX0_town 40 (.invokevirtual 38) 3 43 := ⟨by decide +kernel, rfl⟩
theorem eX0_town_43 : Dc cX0_town 43 (.checkcast 42) 3 46 := ⟨by decide +kernel, rfl⟩
theorem eX0_town_46 : Dc cX0_town 46 (.getfield 44) 3 49 := ⟨by decide +kernel, rfl⟩
theorem eX0_town_49 : Dc cX0_town 49 (.iload_n 1) 1 50 := ⟨by decide +kernel, rfl⟩
theorem eX0_town_50 : Db cX0_town 50 (fun o => .if_icmp .ne o) 56 53 := ⟨6, by decide +kernel, by decide, rfl⟩
theorem eX0_town_53 : Dc cX0_town 53 (.bipush (-3)) 2 55 := ⟨by decide +kernel, rfl⟩
theorem eX0_town_55 : Dc cX0_town 55 (.ireturn) 1 56 := ⟨by decide +kernel, rfl⟩
theorem eX0_town_56 : Dc cX0_town 56 (.iinc 3 1) 3 59 := ⟨by decide +kernel, rfl⟩
theorem eX0_town_59 : Db cX0_town 59 (fun o => .goto o) 24 62 := ⟨-35, by decide +kernel, by decide, rfl⟩
theorem eX0_town_62 : Dc cX0_town 62 (.aload_n 0) 1 63 := ⟨by decide +kernel, rfl⟩
theorem eX0_town_63 : Dc cX0_town 63 (.getfield 28) 3 66 := ⟨by decide +kernel, rfl⟩
theorem eX0_town_66 : Dc cX0_town 66 (.invokevirtual 32) 3 69 := ⟨by decide +kernel, rfl⟩
theorem eX0_town_69 : Dc cX0_town 69 (.bipush 6) 2 71 := ⟨by decide +kernel, rfl⟩
theorem eX0_town_71 : Db cX0_town 71 (fun o => .if_icmp .ne o) 77 74 := ⟨6, by decide +kernel, by decide, rfl⟩
theorem eX0_town_74 : Dc cX0_town 74 (.bipush (-4)) 2 76 := ⟨by decide +kernel, rfl⟩
theorem eX0_town_76 : Dc cX0_town 76 (.ireturn) 1 77 := ⟨by decide +kernel, rfl⟩
theorem eX0_town_77 : Dc cX0_town 77 (.aload_n 0) 1 78 := ⟨by decide +kernel, rfl⟩
theorem eX0_town_78 : Dc cX0_town 78 (.getfield 28) 3 81 := ⟨by decide +kernel, rfl⟩
theorem eX0_town_81 : Dc cX0_town 81 (.new 42) 3 84 := ⟨by decide +kernel, rfl⟩
theorem eX0_town_84 : Dc cX0_town 84 (.dup) 1 85 := ⟨by decide +kernel, rfl⟩
theorem eX0_town_85 : Dc cX0_town 85 (.aload_n 0) 1 86 := ⟨by decide +kernel, rfl⟩
theorem eX0_town_86 : Dc cX0_town 86 (.getfield 28) 3 89 := ⟨by decide +kernel, rfl⟩
theorem eX0_town_89 : Dc cX0_town 89 (.invokevirtual 32) 3 92 := ⟨by decide +kernel, rfl⟩
theorem eX0_town_92 : Dc cX0_town 92 (.iload_n 1) 1 93 := ⟨by decide +kernel, rfl⟩
theorem eX0_town_93 : Dc cX0_town 93 (.iload_n 2) 1 94 := ⟨by decide +kernel, rfl⟩
theorem eX0_town_94 : Dc cX0_town 94 (.invokespecial 48) 3 97 := ⟨by decide +kernel, rfl⟩
theorem eX0_town_97 : Dc cX0_town 97 (.invokevirtual 52) 3 100 := ⟨by decide +kernel, rfl⟩
theorem eX0_town_100 : Dc cX0_town 100 (.pop) 1 101 := ⟨by decide +kernel, rfl⟩
theorem eX0_town_101 : Dc cX0_town 101 (.aload_n 0) 1 102 := ⟨by decide +kernel, rfl⟩
theorem eX0_town_102 : Dc cX0_town 102 (.getfield 28) 3 105 := ⟨by decide +kernel, rfl⟩
theorem eX0_town_105 : Dc cX0_town 105 (.invokevirtual 32) 3 108 := ⟨by decide +kernel, rfl⟩
theorem eX0_town_108 : Dc cX0_town 108 (.iconst 1) 1 109 := ⟨by decide +kernel, rfl⟩
theorem eX0_town_109 : Dc cX0_town 109 (.isub) 1 110 := ⟨by decide +kernel, rfl⟩
theorem eX0_town_110 : Dc cX0_town 110 (.ireturn) 1 111 := ⟨by decide +kernel, rfl⟩
theorem eX0_coin_0 : Dc cX0_coin 0 (.iload_n 1) 1 1 := ⟨by decide +kernel, rfl⟩
theorem eX0_coin_1 : Dc cX0_coin 1 (.invokestatic 56) 3 4 := ⟨by decide +kernel, rfl⟩
theorem eX0_coin_4 : Db cX0_coin 4 (fun o => .ifCond .ne o) 9 7 := ⟨5, by decide +kernel, by decide, rfl⟩
theorem eX0_coin_7 : Dc cX0_coin 7 (.iconst (-1)) 1 8 := ⟨by decide +kernel, rfl⟩
theorem eX0_coin_8 : Dc cX0_coin 8 (.ireturn) 1 9 := ⟨by decide +kernel, rfl⟩
theorem eX0_coin_9 : Dc cX0_coin 9 (.iload_n 2) 1 10 := ⟨by decide +kernel, rfl⟩
theorem eX0_coin_10 : Dc cX0_coin 10 (.iconst 0) 1 11 := ⟨by decide +kernel, rfl⟩
theorem eX0_coin_11 : Dc cX0_coin 11 (.ldc 59) 2 13 := ⟨by decide +kernel, rfl⟩
theorem eX0_coin_13 : Dc cX0_coin 13 (.invokestatic 3) 3 16 := ⟨by decide +kernel, rfl⟩
theorem eX0_coin_16 : Db cX0_coin 16 (fun o => .ifCond .ne o) 22 19 := ⟨6, by decide +kernel, by decide, rfl⟩
theorem eX0_coin_19 : Dc cX0_coin 19 (.bipush (-2)) 2 21 := ⟨by decide +kernel, rfl⟩
theorem eX0_coin_21 : Dc cX0_coin 21 (.ireturn) 1 22 := ⟨by decide +kernel, rfl⟩
theorem eX0_coin_22 : Dc cX0_coin 22 (.aload_n 0) 1 23 := ⟨by decide +kernel, rfl⟩
theorem eX0_coin_23 : Dc cX0_coin 23 (.getfield 60) 3 26 := ⟨by decide +kernel, rfl⟩
theorem eX0_coin_26 : Dc cX0_coin 26 (.iload_n 1) 1 27 := ⟨by decide +kernel, rfl⟩
theorem eX0_coin_27 : Dc cX0_coin 27 (.laload) 1 28 := ⟨by decide +kernel, rfl⟩
theorem eX0_coin_28 : Dc cX0_coin 28 (.l2i) 1 29 := ⟨by decide +kernel, rfl⟩
theorem eX0_coin_29 : Dc cX0_coin 29 (.istore_n 3) 1 30 := ⟨by decide +kernel, rfl⟩
theorem eX0_coin_30 : Dc cX0_coin 30 (.aload_n 0) 1 31 := ⟨by decide +kernel, rfl⟩
theorem eX0_coin_31 : Dc cX0_coin 31 (.getfield 60) 3 34 := ⟨by decide +kernel, rfl⟩
theorem eX0_coin_34 : Dc cX0_coin 34 (.iload_n 1) 1 35 := ⟨by decide +kernel, rfl⟩
theorem eX0_coin_35 : Dc cX0_coin 35 (.iload_n 2) 1 36 := ⟨by decide +kernel, rfl⟩
theorem eX0_coin_36 : Dc cX0_coin 36 (.i2l) 1 37 := ⟨by decide +kernel, rfl⟩
theorem eX0_coin_37 : Dc cX0_coin 37 (.lastore) 1 38 := ⟨by decide +kernel, rfl⟩
theorem eX0_coin_38 : Dc cX0_coin 38 (.iload_n 3) 1 39 := ⟨by decide +kernel, rfl⟩
theorem eX0_coin_39 : Dc cX0_coin 39 (.ireturn) 1 40 := ⟨by decide +kernel, rfl⟩
theorem eX0_isHolder_0 : Dc cX0_isHolder 0 (.iload_n 0) 1 1 := ⟨by decide +kernel, rfl⟩
theorem eX0_isHolder_1 : Dc cX0_isHolder 1 (.iconst 0) 1 2 := ⟨by decide +kernel, rfl⟩
theorem eX0_isHolder_2 : Dc cX0_isHolder 2 (.bipush 7) 2 4 := ⟨by decide +kernel, rfl⟩
theorem eX0_isHolder_4 : Dc cX0_isHolder 4 (.invokestatic 3) 3 7 := ⟨by decide +kernel, rfl⟩
theorem eX0_isHolder_7 : Dc cX0_isHolder 7 (.ireturn) 1 8 := ⟨by decide +kernel, rfl⟩
theorem eX0_man_0 : Dc cX0_man 0 (.iload_n 1) 1 1 := ⟨by decide +kernel, rfl⟩
theorem eX0_man_1 : Dc cX0_man 1 (.iconst 0) 1 2 := ⟨by decide +kernel, rfl⟩
theorem eX0_man_2 : Dc cX0_man 2 (.bipush 99) 2 4 := ⟨by decide +kernel, rfl⟩
theorem eX0_man_4 : Dc cX0_man 4 (.invokestatic 3) 3 7 := ⟨by decide +kernel, rfl⟩
theorem eX0_man_7 : Db cX0_man 7 (fun o => .ifCond .ne o) 13 10 := ⟨6, by decide +kernel, by decide, rfl⟩
theorem eX0_man_10 : Dc cX0_man 10 (.bipush (-2)) 2 12 := ⟨by decide +kernel, rfl⟩
theorem eX0_man_12 : Dc cX0_man 12 (.ireturn) 1 13 := ⟨by decide +kernel, rfl⟩
theorem eX0_man_13 : Dc cX0_man 13 (.aload_n 0) 1 14 := ⟨by decide +kernel, rfl⟩
theorem eX0_man_14 : Dc cX0_man 14 (.getfield 64) 3 17 := ⟨by decide +kernel, rfl⟩
theorem eX0_man_17 : Dc cX0_man 17 (.istore_n 2) 1 18 := ⟨by decide +kernel, rfl⟩
theorem eX0_man_18 : Dc cX0_man 18 (.aload_n 0) 1 19 := ⟨by decide +kernel, rfl⟩
theorem eX0_man_19 : Dc cX0_man 19 (.iload_n 1) 1 20 := ⟨by decide +kernel, rfl⟩
theorem eX0_man_20 : Dc cX0_man 20 (.putfield 64) 3 23 := ⟨by decide +kernel, rfl⟩
theorem eX0_man_23 : Dc cX0_man 23 (.iload_n 2) 1 24 := ⟨by decide +kernel, rfl⟩
theorem eX0_man_24 : Dc cX0_man 24 (.ireturn) 1 25 := ⟨by decide +kernel, rfl⟩
theorem eX0_feed_0 : Dc cX0_feed 0 (.iload_n 3) 1 1 := ⟨by decide +kernel, rfl⟩
theorem eX0_feed_1 : Dc cX0_feed 1 (.iconst 1) 1 2 := ⟨by decide +kernel, rfl⟩
theorem eX0_feed_2 : Dc cX0_feed 2 (.bipush 8) 2 4 := ⟨by decide +kernel, rfl⟩
theorem eX0_feed_4 : Dc cX0_feed 4 (.invokestatic 3) 3 7 := ⟨by decide +kernel, rfl⟩
theorem eX0_feed_7 : Db cX0_feed 7 (fun o => .ifCond .ne o) 13 10 := ⟨6, by decide +kernel, by decide, rfl⟩
theorem eX0_feed_10 : Dc cX0_feed 10 (.bipush (-2)) 2 12 := ⟨by decide +kernel, rfl⟩
theorem eX0_feed_12 : Dc cX0_feed 12 (.ireturn) 1 13 := ⟨by decide +kernel, rfl⟩
theorem eX0_feed_13 : Dc cX0_feed 13 (.aload_n 0) 1 14 := ⟨by decide +kernel, rfl⟩
theorem eX0_feed_14 : Dc cX0_feed 14 (.getfield 67) 3 17 := ⟨by decide +kernel, rfl⟩
theorem eX0_feed_17 : Dc cX0_feed 17 (.iload_n 3) 1 18 := ⟨by decide +kernel, rfl⟩
theorem eX0_feed_18 : Dc cX0_feed 18 (.iadd) 1 19 := ⟨by decide +kernel, rfl⟩
theorem eX0_feed_19 : Dc cX0_feed 19 (.sipush 140) 3 22 := ⟨by decide +kernel, rfl⟩
theorem eX0_feed_22 : Db cX0_feed 22 (fun o => .if_icmp .le o) 28 25 := ⟨6, by decide +kernel, by decide, rfl⟩
theorem eX0_feed_25 : Dc cX0_feed 25 (.bipush (-4)) 2 27 := ⟨by decide +kernel, rfl⟩
theorem eX0_feed_27 : Dc cX0_feed 27 (.ireturn) 1 28 := ⟨by decide +kernel, rfl⟩
theorem eX0_feed_28 : Dc cX0_feed 28 (.iload_n 3) 1 29 := ⟨by decide +kernel, rfl⟩
theorem eX0_feed_29 : Dc cX0_feed 29 (.iconst 1) 1 30 := ⟨by decide +kernel, rfl⟩
theorem eX0_feed_30 : Dc cX0_feed 30 (.isub) 1 31 := ⟨by decide +kernel, rfl⟩
theorem eX0_feed_31 : Dc cX0_feed 31 (.istore 4) 2 33 := ⟨by decide +kernel, rfl⟩
theorem eX0_feed_33 : Dc cX0_feed 33 (.iload 4) 2 35 := ⟨by decide +kernel, rfl⟩
theorem eX0_feed_35 : Db cX0_feed 35 (fun o => .ifCond .lt o) 69 38 := ⟨34, by decide +kernel, by decide, rfl⟩
theorem eX0_feed_38 : Dc cX0_feed 38 (.aload_n 0) 1 39 := ⟨by decide +kernel, rfl⟩
theorem eX0_feed_39 : Dc cX0_feed 39 (.getfield 70) 3 42 := ⟨by decide +kernel, rfl⟩
theorem eX0_feed_42 : Dc cX0_feed 42 (.aload_n 0) 1 43 := ⟨by decide +kernel, rfl⟩
theorem eX0_feed_43 : Dc cX0_feed 43 (.dup) 1 44 := ⟨by decide +kernel, rfl⟩
theorem eX0_feed_44 : Dc cX0_feed 44 (.getfield 67) 3 47 := ⟨by decide +kernel, rfl⟩
theorem eX0_feed_47 : Dc cX0_feed 47 (.dup_x1) 1 48 := ⟨by decide +kernel, rfl⟩
theorem eX0_feed_48 : Dc cX0_feed 48 (.iconst 1) 1 49 := ⟨by decide +kernel, rfl⟩
theorem eX0_feed_49 : Dc cX0_feed 49 (.iadd) 1 50 := ⟨by decide +kernel, rfl⟩
theorem eX0_feed_50 : Dc cX0_feed 50 (.putfield 67) 3 53 := ⟨by decide +kernel, rfl⟩
theorem eX0_feed_53 : Dc cX0_feed 53 (.lload_n 1) 1 54 := ⟨by decide +kernel, rfl⟩
theorem eX0_feed_54 : Dc cX0_feed 54 (.bipush 8) 2 56 := ⟨by decide +kernel, rfl⟩
theorem eX0_feed_56 : Dc cX0_feed 56 (.iload 4) 2 58 := ⟨by decide +kernel, rfl⟩
theorem eX0_feed_58 : Dc cX0_feed 58 (.imul) 1 59 := ⟨by decide +kernel, rfl⟩
theorem eX0_feed_59 : Dc cX0_feed 59 (.lshr) 1 60 := ⟨by decide +kernel, rfl⟩
theorem eX0_feed_60 : Dc cX0_feed 60 (.l2i) 1 61 := ⟨by decide +kernel, rfl⟩
theorem eX0_feed_61 : Dc cX0_feed 61 (.i2b) 1 62 := ⟨by decide +kernel, rfl⟩
theorem eX0_feed_62 : Dc cX0_feed 62 (.bastore) 1 63 := ⟨by decide +kernel, rfl⟩
theorem eX0_feed_63 : Dc cX0_feed 63 (.iinc 4 (-1)) 3 66 := ⟨by decide +kernel, rfl⟩
theorem eX0_feed_66 : Db cX0_feed 66 (fun o => .goto o) 33 69 := ⟨-33, by decide +kernel, by decide, rfl⟩
theorem eX0_feed_69 : Dc cX0_feed 69 (.aload_n 0) 1 70 := ⟨by decide +kernel, rfl⟩
theorem eX0_feed_70 : Dc cX0_feed 70 (.getfield 67) 3 73 := ⟨by decide +kernel, rfl⟩
theorem eX0_feed_73 : Dc cX0_feed 73 (.ireturn) 1 74 := ⟨by decide +kernel, rfl⟩
theorem eX0_text_0 : Dc cX0_text 0 (.iload_n 1) 1 1 := ⟨by decide +kernel, rfl⟩
theorem eX0_text_1 : Dc cX0_text 1 (.invokestatic 74) 3 4 := ⟨by decide +kernel, rfl⟩
theorem eX0_text_4 : Db cX0_text 4 (fun o => .ifCond .ne o) 10 7 := ⟨6, by decide +kernel, by decide, rfl⟩
theorem eX0_text_7 : Dc cX0_text 7 (.bipush (-2)) 2 9 := ⟨by decide +kernel, rfl⟩
theorem eX0_text_9 : Dc cX0_text 9 (.ireturn) 1 10 := ⟨by decide +kernel, rfl⟩
theorem eX0_text_10 : Dc cX0_text 10 (.aload_n 0) 1 11 := ⟨by decide +kernel, rfl⟩
theorem eX0_text_11 : Dc cX0_text 11 (.getfield 77) 3 14 := ⟨by decide +kernel, rfl⟩
theorem eX0_text_14 : Dc cX0_text 14 (.invokevirtual 32) 3 17 := ⟨by decide +kernel, rfl⟩
theorem eX0_text_17 : Dc cX0_text 17 (.bipush 8) 2 19 := ⟨by decide +kernel, rfl⟩
theorem eX0_text_19 : Db cX0_text 19 (fun o => .if_icmp .ne o) 25 22 := ⟨6, by decide +kernel, by decide, rfl⟩
theorem eX0_text_22 : Dc cX0_text 22 (.bipush (-4)) 2 24 := ⟨by decide +kernel, rfl⟩
theorem eX0_text_24 : Dc cX0_text 24 (.ireturn) 1 25 := ⟨by decide +kernel, rfl⟩
theorem eX0_text_25 : Dc cX0_text 25 (.aload_n 0) 1 26 := ⟨by decide +kernel, rfl⟩
theorem eX0_text_26 : Dc cX0_text 26 (.getfield 77) 3 29 := ⟨by decide +kernel, rfl⟩
theorem eX0_text_29 : Dc cX0_text 29 (.aload_n 0) 1 30 := ⟨by decide +kernel, rfl⟩
theorem eX0_text_30 : Dc cX0_text 30 (.getfield 80) 3 33 := ⟨by decide +kernel, rfl⟩
theorem eX0_text_33 : Dc cX0_text 33 (.iload_n 1) 1 34 := ⟨by decide +kernel, rfl⟩
theorem eX0_text_34 : Dc cX0_text 34 (.invokevirtual 84) 3 37 := ⟨by decide +kernel, rfl⟩
theorem eX0_text_37 : Dc cX0_text 37 (.invokevirtual 52) 3 40 := ⟨by decide +kernel, rfl⟩
theorem eX0_text_40 : Dc cX0_text 40 (.pop) 1 41 := ⟨by decide +kernel, rfl⟩
theorem eX0_text_41 : Dc cX0_text 41 (.aload_n 0) 1 42 := ⟨by decide +kernel, rfl⟩
theorem eX0_text_42 : Dc cX0_text 42 (.getfield 77) 3 45 := ⟨by decide +kernel, rfl⟩
theorem eX0_text_45 : Dc cX0_text 45 (.invokevirtual 32) 3 48 := ⟨by decide +kernel, rfl⟩
theorem eX0_text_48 : Dc cX0_text 48 (.iconst 1) 1 49 := ⟨by decide +kernel, rfl⟩
theorem eX0_text_49 : Dc cX0_text 49 (.isub) 1 50 := ⟨by decide +kernel, rfl⟩
theorem eX0_text_50 : Dc cX0_text 50 (.istore_n 2) 1 51 := ⟨by decide +kernel, rfl⟩
theorem eX0_text_51 : Dc cX0_text 51 (.aload_n 0) 1 52 := ⟨by decide +kernel, rfl⟩
theorem eX0_text_52 : Dc cX0_text 52 (.iconst 0) 1 53 := ⟨by decide +kernel, rfl⟩
theorem eX0_text_53 : Dc cX0_text 53 (.putfield 67) 3 56 := ⟨by decide +kernel, rfl⟩
theorem eX0_text_56 : Dc cX0_text 56 (.iload_n 2) 1 57 := ⟨by decide +kernel, rfl⟩
theorem eX0_text_57 : Dc cX0_text 57 (.ireturn) 1 58 := ⟨by decide +kernel, rfl⟩
theorem eX0_text_58 : Dc cX0_text 58 (.astore_n 2) 1 59 := ⟨by decide +kernel, rfl⟩
theorem eX0_text_59 : Dc cX0_text 59 (.bipush (-10)) 2 61 := ⟨by decide +kernel, rfl⟩
theorem eX0_text_61 : Dc cX0_text 61 (.aload_n 2) 1 62 := ⟨by decide +kernel, rfl⟩
theorem eX0_text_62 : Dc cX0_text 62 (.getfield 92) 3 65 := ⟨by decide +kernel, rfl⟩
theorem eX0_text_65 : Dc cX0_text 65 (.isub) 1 66 := ⟨by decide +kernel, rfl⟩
theorem eX0_text_66 : Dc cX0_text 66 (.istore_n 3) 1 67 := ⟨by decide +kernel, rfl⟩
theorem eX0_text_67 : Dc cX0_text 67 (.aload_n 0) 1 68 := ⟨by decide +kernel, rfl⟩
theorem eX0_text_68 : Dc cX0_text 68 (.iconst 0) 1 69 := ⟨by decide +kernel, rfl⟩
theorem eX0_text_69 : Dc cX0_text 69 (.putfield 67) 3 72 := ⟨by decide +kernel, rfl⟩
theorem eX0_text_72 : Dc cX0_text 72 (.iload_n 3) 1 73 := ⟨by decide +kernel, rfl⟩
theorem eX0_text_73 : Dc cX0_text 73 (.ireturn) 1 74 := ⟨by decide +kernel, rfl⟩
theorem eX0_text_74 : Dc cX0_text 74 (.astore 4) 2 76 := ⟨by decide +kernel, rfl⟩
theorem eX0_text_76 : Dc cX0_text 76 (.aload_n 0) 1 77 := ⟨by decide +kernel, rfl⟩
theorem eX0_text_77 : Dc cX0_text 77 (.iconst 0) 1 78 := ⟨by decide +kernel, rfl⟩
theorem eX0_text_78 : Dc cX0_text 78 (.putfield 67) 3 81 := ⟨by decide +kernel, rfl⟩
theorem eX0_text_81 : Dc cX0_text 81 (.aload 4) 2 83 := ⟨by decide +kernel, rfl⟩
theorem eX0_text_83 : Dc cX0_text 83 (.athrow) 1 84 := ⟨by decide +kernel, rfl⟩
theorem eX0_isDay_0 : Dc cX0_isDay 0 (.iload_n 0) 1 1 := ⟨by decide +kernel, rfl⟩
theorem eX0_isDay_1 : Dc cX0_isDay 1 (.iconst 0) 1 2 := ⟨by decide +kernel, rfl⟩
theorem eX0_isDay_2 : Dc cX0_isDay 2 (.sipush 999) 3 5 := ⟨by decide +kernel, rfl⟩
theorem eX0_isDay_5 : Dc cX0_isDay 5 (.invokestatic 3) 3 8 := ⟨by decide +kernel, rfl⟩
theorem eX0_isDay_8 : Dc cX0_isDay 8 (.ireturn) 1 9 := ⟨by decide +kernel, rfl⟩
theorem eX0_force_0 : Dc cX0_force 0 (.iload_n 1) 1 1 := ⟨by decide +kernel, rfl⟩
theorem eX0_force_1 : Dc cX0_force 1 (.iconst 0) 1 2 := ⟨by decide +kernel, rfl⟩
theorem eX0_force_2 : Dc cX0_force 2 (.bipush 6) 2 4 := ⟨by decide +kernel, rfl⟩
theorem eX0_force_4 : Dc cX0_force 4 (.invokestatic 3) 3 7 := ⟨by decide +kernel, rfl⟩
theorem eX0_force_7 : Db cX0_force 7 (fun o => .ifCond .ne o) 14 10 := ⟨7, by decide +kernel, by decide, rfl⟩
theorem eX0_force_10 : Dc cX0_force 10 (.iconst (-1)) 1 11 := ⟨by decide +kernel, rfl⟩
theorem eX0_force_11 : Db cX0_force 11 (fun o => .goto o) 32 14 := ⟨21, by decide +kernel, by decide, rfl⟩
theorem eX0_force_14 : Dc cX0_force 14 (.iload_n 2) 1 15 := ⟨by decide +kernel, rfl⟩
theorem eX0_force_15 : Dc cX0_force 15 (.invokestatic 74) 3 18 := ⟨by decide +kernel, rfl⟩
theorem eX0_force_18 : Db cX0_force 18 (fun o => .ifCond .eq o) 30 21 := ⟨12, by decide +kernel, by decide, rfl⟩
theorem eX0_force_21 : Dc cX0_force 21 (.aload_n 0) 1 22 := ⟨by decide +kernel, rfl⟩
theorem eX0_force_22 : Dc cX0_force 22 (.iload_n 1) 1 23 := ⟨by decide +kernel, rfl⟩
theorem eX0_force_23 : Dc cX0_force 23 (.iload_n 2) 1 24 := ⟨by decide +kernel, rfl⟩
theorem eX0_force_24 : Dc cX0_force 24 (.invokevirtual 118) 3 27 := ⟨by decide +kernel, rfl⟩
theorem eX0_force_27 : Db cX0_force 27 (fun o => .goto o) 32 30 := ⟨5, by decide +kernel, by decide, rfl⟩
theorem eX0_force_30 : Dc cX0_force 30 (.bipush (-2)) 2 32 := ⟨by decide +kernel, rfl⟩
theorem eX0_force_32 : Dc cX0_force 32 (.ireturn) 1 33 := ⟨by decide +kernel, rfl⟩
theorem eX0_rule_0 : Dc cX0_rule 0 (.aload_n 0) 1 1 := ⟨by decide +kernel, rfl⟩
theorem eX0_rule_1 : Dc cX0_rule 1 (.iload_n 1) 1 2 := ⟨by decide +kernel, rfl⟩
theorem eX0_rule_2 : Dc cX0_rule 2 (.iload_n 2) 1 3 := ⟨by decide +kernel, rfl⟩
theorem eX0_rule_3 : Dc cX0_rule 3 (.invokevirtual 111) 3 6 := ⟨by decide +kernel, rfl⟩
theorem eX0_rule_6 : Dc cX0_rule 6 (.astore_n 3) 1 7 := ⟨by decide +kernel, rfl⟩
theorem eX0_rule_7 : Dc cX0_rule 7 (.aload_n 3) 1 8 := ⟨by decide +kernel, rfl⟩
theorem eX0_rule_8 : Db cX0_rule 8 (fun o => .ifnull o) 16 11 := ⟨8, by decide +kernel, by decide, rfl⟩
theorem eX0_rule_11 : Dc cX0_rule 11 (.aload_n 3) 1 12 := ⟨by decide +kernel, rfl⟩
theorem eX0_rule_12 : Dc cX0_rule 12 (.getfield 115) 3 15 := ⟨by decide +kernel, rfl⟩
theorem eX0_rule_15 : Dc cX0_rule 15 (.ireturn) 1 16 := ⟨by decide +kernel, rfl⟩
theorem eX0_rule_16 : Dc cX0_rule 16 (.iload_n 1) 1 17 := ⟨by decide +kernel, rfl⟩
theorem eX0_rule_17 : Dt cX0_rule 17 (0) [56, 59, 61, 65, 68, 71] 73 := ⟨56, 5, #[39, 42, 44, 48, 51, 54], 39, by decide +kernel, by decide, by decide, by decide⟩
theorem eX0_rule_56 : Dc cX0_rule 56 (.bipush 99) 2 58 := ⟨by decide +kernel, rfl⟩
theorem eX0_rule_58 : Dc cX0_rule 58 (.ireturn) 1 59 := ⟨by decide +kernel, rfl⟩
theorem eX0_rule_59 : Dc cX0_rule 59 (.iconst 2) 1 60 := ⟨by decide +kernel, rfl⟩
theorem eX0_rule_60 : Dc cX0_rule 60 (.ireturn) 1 61 := ⟨by decide +kernel, rfl⟩
theorem eX0_rule_61 : Dc cX0_rule 61 (.sipush 999) 3 64 := ⟨by decide +kernel, rfl⟩
theorem eX0_rule_64 : Dc cX0_rule 64 (.ireturn) 1 65 := ⟨by decide +kernel, rfl⟩
theorem eX0_rule_65 : Dc cX0_rule 65 (.bipush 50) 2 67 := ⟨by decide +kernel, rfl⟩
theorem eX0_rule_67 : Dc cX0_rule 67 (.ireturn) 1 68 := ⟨by decide +kernel, rfl⟩
theorem eX0_rule_68 : Dc cX0_rule 68 (.bipush 10) 2 70 := ⟨by decide +kernel, rfl⟩
theorem eX0_rule_70 : Dc cX0_rule 70 (.ireturn) 1 71 := ⟨by decide +kernel, rfl⟩
theorem eX0_rule_71 : Dc cX0_rule 71 (.iconst 1) 1 72 := ⟨by decide +kernel, rfl⟩
theorem eX0_rule_72 : Dc cX0_rule 72 (.ireturn) 1 73 := ⟨by decide +kernel, rfl⟩
theorem eX0_rule_73 : Dc cX0_rule 73 (.iconst 0) 1 74 := ⟨by decide +kernel, rfl⟩
theorem eX0_rule_74 : Dc cX0_rule 74 (.ireturn) 1 75 := ⟨by decide +kernel, rfl⟩
theorem eX0_clauseFor_0 : Dc cX0_clauseFor 0 (.aload_n 0) 1 1 := ⟨by decide +kernel, rfl⟩
theorem eX0_clauseFor_1 : Dc cX0_clauseFor 1 (.iload_n 1) 1 2 := ⟨by decide +kernel, rfl⟩
theorem eX0_clauseFor_2 : Dc cX0_clauseFor 2 (.iload_n 2) 1 3 := ⟨by decide +kernel, rfl⟩
theorem eX0_clauseFor_3 : Dc cX0_clauseFor 3 (.invokevirtual 103) 3 6 := ⟨by decide +kernel, rfl⟩
theorem eX0_clauseFor_6 : Dc cX0_clauseFor 6 (.istore_n 3) 1 7 := ⟨by decide +kernel, rfl⟩
theorem eX0_clauseFor_7 : Dc cX0_clauseFor 7 (.iload_n 3) 1 8 := ⟨by decide +kernel, rfl⟩
theorem eX0_clauseFor_8 : Dc cX0_clauseFor 8 (.iconst (-1)) 1 9 := ⟨by decide +kernel, rfl⟩
theorem eX0_clauseFor_9 : Db cX0_clauseFor 9 (fun o => .if_icmp .ne o) 16 12 := ⟨7, by decide +kernel, by decide, rfl⟩
theorem eX0_clauseFor_12 : Dc cX0_clauseFor 12 (.aconst_null) 1 13 := ⟨by decide +kernel, rfl⟩
theorem eX0_clauseFor_13 : Db cX0_clauseFor 13 (fun o => .goto o) 51 16 := ⟨38, by decide +kernel, by decide, rfl⟩
theorem eX0_clauseFor_16 : Dc cX0_clauseFor 16 (.aload_n 0) 1 17 := ⟨by decide +kernel, rfl⟩
theorem eX0_clauseFor_17 : Dc cX0_clauseFor 17 (.getfield 77) 3 20 := ⟨by decide +kernel, rfl⟩
theorem eX0_clauseFor_20 : Dc cX0_clauseFor 20 (.iload_n 3) 1 21 := ⟨by decide +kernel, rfl⟩
theorem eX0_clauseFor_21 : Dc cX0_clauseFor 21 (.invokevirtual 38) 3 24 := ⟨by decide +kernel, rfl⟩
theorem eX0_clauseFor_24 : Dc cX0_clauseFor 24 (.checkcast 95) 3 27 := ⟨by decide +kernel, rfl⟩
theorem eX0_clauseFor_27 : Dc cX0_clauseFor 27 (.getfield 106) 3 30 := ⟨by decide +kernel, rfl⟩
theorem eX0_clauseFor_30 : Dc cX0_clauseFor 30 (.aload_n 0) 1 31 := ⟨by decide +kernel, rfl⟩
theorem eX0_clauseFor_31 : Dc cX0_clauseFor 31 (.getfield 77) 3 34 := ⟨by decide +kernel, rfl⟩
theorem eX0_clauseFor_34 : Dc cX0_clauseFor 34 (.iload_n 3) 1 35 := ⟨by decide +kernel, rfl⟩
theorem eX0_clauseFor_35 : Dc cX0_clauseFor 35 (.invokevirtual 38) 3 38 := ⟨by decide +kernel, rfl⟩
theorem eX0_clauseFor_38 : Dc cX0_clauseFor 38 (.checkcast 95) 3 41 := ⟨by decide +kernel, rfl⟩
theorem eX0_clauseFor_41 : Dc cX0_clauseFor 41 (.iload_n 1) 1 42 := ⟨by decide +kernel, rfl⟩
theorem eX0_clauseFor_42 : Dc cX0_clauseFor 42 (.invokevirtual 100) 3 45 := ⟨by decide +kernel, rfl⟩
theorem eX0_clauseFor_45 : Dc cX0_clauseFor 45 (.invokevirtual 38) 3 48 := ⟨by decide +kernel, rfl⟩
theorem eX0_clauseFor_48 : Dc cX0_clauseFor 48 (.checkcast 109) 3 51 := ⟨by decide +kernel, rfl⟩
theorem eX0_clauseFor_51 : Dc cX0_clauseFor 51 (.areturn) 1 52 := ⟨by decide +kernel, rfl⟩
theorem eX0_orderFor_0 : Dc cX0_orderFor 0 (.iconst (-1)) 1 1 := ⟨by decide +kernel, rfl⟩
theorem eX0_orderFor_1 : Dc cX0_orderFor 1 (.istore_n 3) 1 2 := ⟨by decide +kernel, rfl⟩
theorem eX0_orderFor_2 : Dc cX0_orderFor 2 (.iconst 0) 1 3 := ⟨by decide +kernel, rfl⟩
theorem eX0_orderFor_3 : Dc cX0_orderFor 3 (.istore 4) 2 5 := ⟨by decide +kernel, rfl⟩
theorem eX0_orderFor_5 : Dc cX0_orderFor 5 (.iload 4) 2 7 := ⟨by decide +kernel, rfl⟩
theorem eX0_orderFor_7 : Dc cX0_orderFor 7 (.aload_n 0) 1 8 := ⟨by decide +kernel, rfl⟩
theorem eX0_orderFor_8 : Dc cX0_orderFor 8 (.getfield 77) 3 11 := ⟨by decide +kernel, rfl⟩
theorem eX0_orderFor_11 : Dc cX0_orderFor 11 (.invokevirtual 32) 3 14 := ⟨by decide +kernel, rfl⟩
theorem eX0_orderFor_14 : Db cX0_orderFor 14 (fun o => .if_icmp .ge o) 102 17 := ⟨88, by decide +kernel, by decide, rfl⟩
theorem eX0_orderFor_17 : Dc cX0_orderFor 17 (.aload_n 0) 1 18 := ⟨by decide +kernel, rfl⟩
theorem eX0_orderFor_18 : Dc cX0_orderFor 18 (.getfield 77) 3 21 := ⟨by decide +kernel, rfl⟩
theorem eX0_orderFor_21 : Dc cX0_orderFor 21 (.iload 4) 2 23 := ⟨by decide +kernel, rfl⟩
theorem eX0_orderFor_23 : Dc cX0_orderFor 23 (.invokevirtual 38) 3 26 := ⟨by decide +kernel, rfl⟩
theorem eX0_orderFor_26 : Dc cX0_orderFor 26 (.checkcast 95) 3 29 := ⟨by decide +kernel, rfl⟩
theorem eX0_orderFor_29 : Dc cX0_orderFor 29 (.getfield 97) 3 32 := ⟨by decide +kernel, rfl⟩
theorem eX0_orderFor_32 : Dc cX0_orderFor 32 (.iload_n 2) 1 33 := ⟨by decide +kernel, rfl⟩
theorem eX0_orderFor_33 : Db cX0_orderFor 33 (fun o => .if_icmp .gt o) 96 36 := ⟨63, by decide +kernel, by decide, rfl⟩
theorem eX0_orderFor_36 : Dc cX0_orderFor 36 (.aload_n 0) 1 37 := ⟨by decide +kernel, rfl⟩
theorem eX0_orderFor_37 : Dc cX0_orderFor 37 (.getfield 77) 3 40 := ⟨by decide +kernel, rfl⟩
theorem eX0_orderFor_40 : Dc cX0_orderFor 40 (.iload 4) 2 42 := ⟨by decide +kernel, rfl⟩
theorem eX0_orderFor_42 : Dc cX0_orderFor 42 (.invokevirtual 38) 3 45 := ⟨by decide +kernel, rfl⟩
theorem eX0_orderFor_45 : Dc cX0_orderFor 45 (.checkcast 95) 3 48 := ⟨by decide +kernel, rfl⟩
theorem eX0_orderFor_48 : Dc cX0_orderFor 48 (.iload_n 1) 1 49 := ⟨by decide +kernel, rfl⟩
theorem eX0_orderFor_49 : Dc cX0_orderFor 49 (.invokevirtual 100) 3 52 := ⟨by decide +kernel, rfl⟩
theorem eX0_orderFor_52 : Dc cX0_orderFor 52 (.iconst (-1)) 1 53 := ⟨by decide +kernel, rfl⟩
theorem eX0_orderFor_53 : Db cX0_orderFor 53 (fun o => .if_icmp .eq o) 96 56 := ⟨43, by decide +kernel, by decide, rfl⟩
theorem eX0_orderFor_56 : Dc cX0_orderFor 56 (.iload_n 3) 1 57 := ⟨by decide +kernel, rfl⟩
theorem eX0_orderFor_57 : Dc cX0_orderFor 57 (.iconst (-1)) 1 58 := ⟨by decide +kernel, rfl⟩
theorem eX0_orderFor_58 : Db cX0_orderFor 58 (fun o => .if_icmp .eq o) 93 61 := ⟨35, by decide +kernel, by decide, rfl⟩
theorem eX0_orderFor_61 : Dc cX0_orderFor 61 (.aload_n 0) 1 62 := ⟨by decide +kernel, rfl⟩
theorem eX0_orderFor_62 : Dc cX0_orderFor 62 (.getfield 77) 3 65 := ⟨by decide +kernel, rfl⟩
theorem eX0_orderFor_65 : Dc cX0_orderFor 65 (.iload 4) 2 67 := ⟨by decide +kernel, rfl⟩
theorem eX0_orderFor_67 : Dc cX0_orderFor 67 (.invokevirtual 38) 3 70 := ⟨by decide +kernel, rfl⟩
theorem eX0_orderFor_70 : Dc cX0_orderFor 70 (.checkcast 95) 3 73 := ⟨by decide +kernel, rfl⟩
theorem eX0_orderFor_73 : Dc cX0_orderFor 73 (.getfield 97) 3 76 := ⟨by decide +kernel, rfl⟩
theorem eX0_orderFor_76 : Dc cX0_orderFor 76 (.aload_n 0) 1 77 := ⟨by decide +kernel, rfl⟩
theorem eX0_orderFor_77 : Dc cX0_orderFor 77 (.getfield 77) 3 80 := ⟨by decide +kernel, rfl⟩
theorem eX0_orderFor_80 : Dc cX0_orderFor 80 (.iload_n 3) 1 81 := ⟨by decide +kernel, rfl⟩
theorem eX0_orderFor_81 : Dc cX0_orderFor 81 (.invokevirtual 38) 3 84 := ⟨by decide +kernel, rfl⟩
theorem eX0_orderFor_84 : Dc cX0_orderFor 84 (.checkcast 95) 3 87 := ⟨by decide +kernel, rfl⟩
theorem eX0_orderFor_87 : Dc cX0_orderFor 87 (.getfield 97) 3 90 := ⟨by decide +kernel, rfl⟩
theorem eX0_orderFor_90 : Db cX0_orderFor 90 (fun o => .if_icmp .lt o) 96 93 := ⟨6, by decide +kernel, by decide, rfl⟩
theorem eX0_orderFor_93 : Dc cX0_orderFor 93 (.iload 4) 2 95 := ⟨by decide +kernel, rfl⟩
theorem eX0_orderFor_95 : Dc cX0_orderFor 95 (.istore_n 3) 1 96 := ⟨by decide +kernel, rfl⟩
theorem eX0_orderFor_96 : Dc cX0_orderFor 96 (.iinc 4 1) 3 99 := ⟨by decide +kernel, rfl⟩
theorem eX0_orderFor_99 : Db cX0_orderFor 99 (fun o => .goto o) 5 102 := ⟨-94, by decide +kernel, by decide, rfl⟩
theorem eX0_orderFor_102 : Dc cX0_orderFor 102 (.iload_n 3) 1 103 := ⟨by decide +kernel, rfl⟩
theorem eX0_orderFor_103 : Dc cX0_orderFor 103 (.ireturn) 1 104 := ⟨by decide +kernel, rfl⟩
theorem eX0_why_0 : Dc cX0_why 0 (.iload_n 1) 1 1 := ⟨by decide +kernel, rfl⟩
theorem eX0_why_1 : Dc cX0_why 1 (.iconst 0) 1 2 := ⟨by decide +kernel, rfl⟩
theorem eX0_why_2 : Dc cX0_why 2 (.bipush 6) 2 4 := ⟨by decide +kernel, rfl⟩
theorem eX0_why_4 : Dc cX0_why 4 (.invokestatic 3) 3 7 := ⟨by decide +kernel, rfl⟩
theorem eX0_why_7 : Db cX0_why 7 (fun o => .ifCond .ne o) 12 10 := ⟨5, by decide +kernel, by decide, rfl⟩
theorem eX0_why_10 : Dc cX0_why 10 (.iconst (-1)) 1 11 := ⟨by decide +kernel, rfl⟩
theorem eX0_why_11 : Dc cX0_why 11 (.ireturn) 1 12 := ⟨by decide +kernel, rfl⟩
theorem eX0_why_12 : Dc cX0_why 12 (.iload_n 2) 1 13 := ⟨by decide +kernel, rfl⟩
theorem eX0_why_13 : Dc cX0_why 13 (.invokestatic 74) 3 16 := ⟨by decide +kernel, rfl⟩
theorem eX0_why_16 : Db cX0_why 16 (fun o => .ifCond .ne o) 22 19 := ⟨6, by decide +kernel, by decide, rfl⟩
theorem eX0_why_19 : Dc cX0_why 19 (.bipush (-2)) 2 21 := ⟨by decide +kernel, rfl⟩
theorem eX0_why_21 : Dc cX0_why 21 (.ireturn) 1 22 := ⟨by decide +kernel, rfl⟩
theorem eX0_why_22 : Dc cX0_why 22 (.aload_n 0) 1 23 := ⟨by decide +kernel, rfl⟩
theorem eX0_why_23 : Dc cX0_why 23 (.iload_n 1) 1 24 := ⟨by decide +kernel, rfl⟩
theorem eX0_why_24 : Dc cX0_why 24 (.iload_n 2) 1 25 := ⟨by decide +kernel, rfl⟩
theorem eX0_why_25 : Dc cX0_why 25 (.invokevirtual 103) 3 28 := ⟨by decide +kernel, rfl⟩
theorem eX0_why_28 : Dc cX0_why 28 (.istore_n 3) 1 29 := ⟨by decide +kernel, rfl⟩
theorem eX0_why_29 : Dc cX0_why 29 (.iload_n 3) 1 30 := ⟨by decide +kernel, rfl⟩
theorem eX0_why_30 : Dc cX0_why 30 (.iconst (-1)) 1 31 := ⟨by decide +kernel, rfl⟩
theorem eX0_why_31 : Db cX0_why 31 (fun o => .if_icmp .ne o) 39 34 := ⟨8, by decide +kernel, by decide, rfl⟩
theorem eX0_why_34 : Dc cX0_why 34 (.bipush (-5)) 2 36 := ⟨by decide +kernel, rfl⟩
theorem eX0_why_36 : Db cX0_why 36 (fun o => .goto o) 59 39 := ⟨23, by decide +kernel, by decide, rfl⟩
theorem eX0_why_39 : Dc cX0_why 39 (.bipush 100) 2 41 := ⟨by decide +kernel, rfl⟩
theorem eX0_why_41 : Dc cX0_why 41 (.iload_n 3) 1 42 := ⟨by decide +kernel, rfl⟩
theorem eX0_why_42 : Dc cX0_why 42 (.imul) 1 43 := ⟨by decide +kernel, rfl⟩
theorem eX0_why_43 : Dc cX0_why 43 (.aload_n 0) 1 44 := ⟨by decide +kernel, rfl⟩
theorem eX0_why_44 : Dc cX0_why 44 (.getfield 77) 3 47 := ⟨by decide +kernel, rfl⟩
theorem eX0_why_47 : Dc cX0_why 47 (.iload_n 3) 1 48 := ⟨by decide +kernel, rfl⟩
theorem eX0_why_48 : Dc cX0_why 48 (.invokevirtual 38) 3 51 := ⟨by decide +kernel, rfl⟩
theorem eX0_why_51 : Dc cX0_why 51 (.checkcast 95) 3 54 := ⟨by decide +kernel, rfl⟩
theorem eX0_why_54 : Dc cX0_why 54 (.iload_n 1) 1 55 := ⟨by decide +kernel, rfl⟩
theorem eX0_why_55 : Dc cX0_why 55 (.invokevirtual 100) 3 58 := ⟨by decide +kernel, rfl⟩
theorem eX0_why_58 : Dc cX0_why 58 (.iadd) 1 59 := ⟨by decide +kernel, rfl⟩
theorem eX0_why_59 : Dc cX0_why 59 (.ireturn) 1 60 := ⟨by decide +kernel, rfl⟩
theorem eX0_init_0 : Dc cX0_init 0 (.aload_n 0) 1 1 := ⟨by decide +kernel, rfl⟩
theorem eX0_init_1 : Dc cX0_init 1 (.invokespecial 139) 3 4 := ⟨by decide +kernel, rfl⟩
theorem eX0_init_4 : Dc cX0_init 4 (.aload_n 0) 1 5 := ⟨by decide +kernel, rfl⟩
theorem eX0_init_5 : Dc cX0_init 5 (.bipush 80) 2 7 := ⟨by decide +kernel, rfl⟩
theorem eX0_init_7 : Dc cX0_init 7 (.newarray .int) 2 9 := ⟨by decide +kernel, rfl⟩
theorem eX0_init_9 : Dc cX0_init 9 (.putfield 13) 3 12 := ⟨by decide +kernel, rfl⟩
theorem eX0_init_12 : Dc cX0_init 12 (.aload_n 0) 1 13 := ⟨by decide +kernel, rfl⟩
theorem eX0_init_13 : Dc cX0_init 13 (.bipush 80) 2 15 := ⟨by decide +kernel, rfl⟩
theorem eX0_init_15 : Dc cX0_init 15 (.newarray .int) 2 17 := ⟨by decide +kernel, rfl⟩
theorem eX0_init_17 : Dc cX0_init 17 (.putfield 21) 3 20 := ⟨by decide +kernel, rfl⟩
theorem eX0_init_20 : Dc cX0_init 20 (.aload_n 0) 1 21 := ⟨by decide +kernel, rfl⟩
theorem eX0_init_21 : Dc cX0_init 21 (.new 33) 3 24 := ⟨by decide +kernel, rfl⟩
theorem eX0_init_24 : Dc cX0_init 24 (.dup) 1 25 := ⟨by decide +kernel, rfl⟩
theorem eX0_init_25 : Dc cX0_init 25 (.invokespecial 144) 3 28 := ⟨by decide +kernel, rfl⟩
theorem eX0_init_28 : Dc cX0_init 28 (.putfield 28) 3 31 := ⟨by decide +kernel, rfl⟩
theorem eX0_init_31 : Dc cX0_init 31 (.aload_n 0) 1 32 := ⟨by decide +kernel, rfl⟩
theorem eX0_init_32 : Dc cX0_init 32 (.bipush 8) 2 34 := ⟨by decide +kernel, rfl⟩
theorem eX0_init_34 : Dc cX0_init 34 (.newarray .long) 2 36 := ⟨by decide +kernel, rfl⟩
theorem eX0_init_36 : Dc cX0_init 36 (.putfield 60) 3 39 := ⟨by decide +kernel, rfl⟩
theorem eX0_init_39 : Dc cX0_init 39 (.aload_n 0) 1 40 := ⟨by decide +kernel, rfl⟩
theorem eX0_init_40 : Dc cX0_init 40 (.sipush 140) 3 43 := ⟨by decide +kernel, rfl⟩
theorem eX0_init_43 : Dc cX0_init 43 (.newarray .byte) 2 45 := ⟨by decide +kernel, rfl⟩
theorem eX0_init_45 : Dc cX0_init 45 (.putfield 70) 3 48 := ⟨by decide +kernel, rfl⟩
theorem eX0_init_48 : Dc cX0_init 48 (.aload_n 0) 1 49 := ⟨by decide +kernel, rfl⟩
theorem eX0_init_49 : Dc cX0_init 49 (.new 33) 3 52 := ⟨by decide +kernel, rfl⟩
theorem eX0_init_52 : Dc cX0_init 52 (.dup) 1 53 := ⟨by decide +kernel, rfl⟩
theorem eX0_init_53 : Dc cX0_init 53 (.invokespecial 144) 3 56 := ⟨by decide +kernel, rfl⟩
theorem eX0_init_56 : Dc cX0_init 56 (.putfield 77) 3 59 := ⟨by decide +kernel, rfl⟩
theorem eX0_init_59 : Dc cX0_init 59 (.aload_n 0) 1 60 := ⟨by decide +kernel, rfl⟩
theorem eX0_init_60 : Dc cX0_init 60 (.new 85) 3 63 := ⟨by decide +kernel, rfl⟩
theorem eX0_init_63 : Dc cX0_init 63 (.dup) 1 64 := ⟨by decide +kernel, rfl⟩
theorem eX0_init_64 : Dc cX0_init 64 (.aload_n 0) 1 65 := ⟨by decide +kernel, rfl⟩
theorem eX0_init_65 : Dc cX0_init 65 (.invokespecial 145) 3 68 := ⟨by decide +kernel, rfl⟩
theorem eX0_init_68 : Dc cX0_init 68 (.putfield 80) 3 71 := ⟨by decide +kernel, rfl⟩
theorem eX0_init_71 : Dc cX0_init 71 (.aload_n 0) 1 72 := ⟨by decide +kernel, rfl⟩
theorem eX0_init_72 : Dc cX0_init 72 (.new 33) 3 75 := ⟨by decide +kernel, rfl⟩
theorem eX0_init_75 : Dc cX0_init 75 (.dup) 1 76 := ⟨by decide +kernel, rfl⟩
theorem eX0_init_76 : Dc cX0_init 76 (.invokespecial 144) 3 79 := ⟨by decide +kernel, rfl⟩
theorem eX0_init_79 : Dc cX0_init 79 (.putfield 121) 3 82 := ⟨by decide +kernel, rfl⟩
theorem eX0_init_82 : Dc cX0_init 82 (.aload_n 0) 1 83 := ⟨by decide +kernel, rfl⟩
theorem eX0_init_83 : Dc cX0_init 83 (.bipush 80) 2 85 := ⟨by decide +kernel, rfl⟩
theorem eX0_init_85 : Dc cX0_init 85 (.newarray .int) 2 87 := ⟨by decide +kernel, rfl⟩
theorem eX0_init_87 : Dc cX0_init 87 (.putfield 148) 3 90 := ⟨by decide +kernel, rfl⟩
theorem eX0_init_90 : Dc cX0_init 90 (.aload_n 0) 1 91 := ⟨by decide +kernel, rfl⟩
theorem eX0_init_91 : Dc cX0_init 91 (.bipush 80) 2 93 := ⟨by decide +kernel, rfl⟩
theorem eX0_init_93 : Dc cX0_init 93 (.newarray .int) 2 95 := ⟨by decide +kernel, rfl⟩
theorem eX0_init_95 : Dc cX0_init 95 (.putfield 151) 3 98 := ⟨by decide +kernel, rfl⟩
theorem eX0_init_98 : Dc cX0_init 98 (.aload_n 0) 1 99 := ⟨by decide +kernel, rfl⟩
theorem eX0_init_99 : Dc cX0_init 99 (.new 33) 3 102 := ⟨by decide +kernel, rfl⟩
theorem eX0_init_102 : Dc cX0_init 102 (.dup) 1 103 := ⟨by decide +kernel, rfl⟩
theorem eX0_init_103 : Dc cX0_init 103 (.invokespecial 144) 3 106 := ⟨by decide +kernel, rfl⟩
theorem eX0_init_106 : Dc cX0_init 106 (.putfield 154) 3 109 := ⟨by decide +kernel, rfl⟩
theorem eX0_init_109 : Dc cX0_init 109 (.aload_n 0) 1 110 := ⟨by decide +kernel, rfl⟩
theorem eX0_init_110 : Dc cX0_init 110 (.bipush 7) 2 112 := ⟨by decide +kernel, rfl⟩
theorem eX0_init_112 : Dc cX0_init 112 (.newarray .int) 2 114 := ⟨by decide +kernel, rfl⟩
theorem eX0_init_114 : Dc cX0_init 114 (.putfield 157) 3 117 := ⟨by decide +kernel, rfl⟩
theorem eX0_init_117 : Dc cX0_init 117 (.aload_n 0) 1 118 := ⟨by decide +kernel, rfl⟩
theorem eX0_init_118 : Dc cX0_init 118 (.bipush 7) 2 120 := ⟨by decide +kernel, rfl⟩
theorem eX0_init_120 : Dc cX0_init 120 (.newarray .int) 2 122 := ⟨by decide +kernel, rfl⟩
theorem eX0_init_122 : Dc cX0_init 122 (.putfield 160) 3 125 := ⟨by decide +kernel, rfl⟩
theorem eX0_init_125 : Dc cX0_init 125 (.aload_n 0) 1 126 := ⟨by decide +kernel, rfl⟩
theorem eX0_init_126 : Dc cX0_init 126 (.bipush 7) 2 128 := ⟨by decide +kernel, rfl⟩
theorem eX0_init_128 : Dc cX0_init 128 (.newarray .int) 2 130 := ⟨by decide +kernel, rfl⟩
theorem eX0_init_130 : Dc cX0_init 130 (.putfield 163) 3 133 := ⟨by decide +kernel, rfl⟩
theorem eX0_init_133 : Dc cX0_init 133 (.aload_n 0) 1 134 := ⟨by decide +kernel, rfl⟩
theorem eX0_init_134 : Dc cX0_init 134 (.bipush 7) 2 136 := ⟨by decide +kernel, rfl⟩
theorem eX0_init_136 : Dc cX0_init 136 (.newarray .int) 2 138 := ⟨by decide +kernel, rfl⟩
theorem eX0_init_138 : Dc cX0_init 138 (.putfield 166) 3 141 := ⟨by decide +kernel, rfl⟩
theorem eX0_init_141 : Dc cX0_init 141 (.aload_n 0) 1 142 := ⟨by decide +kernel, rfl⟩
theorem eX0_init_142 : Dc cX0_init 142 (.new 33) 3 145 := ⟨by decide +kernel, rfl⟩
theorem eX0_init_145 : Dc cX0_init 145 (.dup) 1 146 := ⟨by decide +kernel, rfl⟩
theorem eX0_init_146 : Dc cX0_init 146 (.invokespecial 144) 3 149 := ⟨by decide +kernel, rfl⟩
theorem eX0_init_149 : Dc cX0_init 149 (.putfield 169) 3 152 := ⟨by decide +kernel, rfl⟩
theorem eX0_init_152 : Dc cX0_init 152 (.aload_n 0) 1 153 := ⟨by decide +kernel, rfl⟩
theorem eX0_init_153 : Dc cX0_init 153 (.sipush 1000) 3 156 := ⟨by decide +kernel, rfl⟩
theorem eX0_init_156 : Dc cX0_init 156 (.anewarray 172) 3 159 := ⟨by decide +kernel, rfl⟩
theorem eX0_init_159 : Dc cX0_init 159 (.putfield 173) 3 162 := ⟨by decide +kernel, rfl⟩
theorem eX0_init_162 : Dc cX0_init 162 (.aload_n 0) 1 163 := ⟨by decide +kernel, rfl⟩
theorem eX0_init_163 : Dc cX0_init 163 (.iconst 4) 1 164 := ⟨by decide +kernel, rfl⟩
theorem eX0_init_164 : Dc cX0_init 164 (.anewarray 177) 3 167 := ⟨by decide +kernel, rfl⟩
theorem eX0_init_167 : Dc cX0_init 167 (.putfield 179) 3 170 := ⟨by decide +kernel, rfl⟩
theorem eX0_init_170 : Dc cX0_init 170 (.return_) 1 171 := ⟨by decide +kernel, rfl⟩
theorem eX0_scheme_0 : Dc cX0_scheme 0 (.aload_n 0) 1 1 := ⟨by decide +kernel, rfl⟩
theorem eX0_scheme_1 : Dc cX0_scheme 1 (.iload_n 1) 1 2 := ⟨by decide +kernel, rfl⟩
theorem eX0_scheme_2 : Dc cX0_scheme 2 (.invokevirtual 183) 3 5 := ⟨by decide +kernel, rfl⟩
theorem eX0_scheme_5 : Dc cX0_scheme 5 (.astore 5) 2 7 := ⟨by decide +kernel, rfl⟩
theorem eX0_scheme_7 : Dc cX0_scheme 7 (.aload_n 0) 1 8 := ⟨by decide +kernel, rfl⟩
theorem eX0_scheme_8 : Dc cX0_scheme 8 (.iload_n 2) 1 9 := ⟨by decide +kernel, rfl⟩
theorem eX0_scheme_9 : Dc cX0_scheme 9 (.invokevirtual 183) 3 12 := ⟨by decide +kernel, rfl⟩
theorem eX0_scheme_12 : Dc cX0_scheme 12 (.astore 6) 2 14 := ⟨by decide +kernel, rfl⟩
theorem eX0_scheme_14 : Dc cX0_scheme 14 (.aload 5) 2 16 := ⟨by decide +kernel, rfl⟩
theorem eX0_scheme_16 : Db cX0_scheme 16 (fun o => .ifnull o) 24 19 := ⟨8, by decide +kernel, by decide, rfl⟩
theorem eX0_scheme_19 : Dc cX0_scheme 19 (.aload 6) 2 21 := ⟨by decide +kernel, rfl⟩
theorem eX0_scheme_21 : Db cX0_scheme 21 (fun o => .ifnonnull o) 26 24 := ⟨5, by decide +kernel, by decide, rfl⟩
theorem eX0_scheme_24 : Dc cX0_scheme 24 (.iconst (-1)) 1 25 := ⟨by decide +kernel, rfl⟩
theorem eX0_scheme_25 : Dc cX0_scheme 25 (.ireturn) 1 26 := ⟨by decide +kernel, rfl⟩
theorem eX0_scheme_26 : Dc cX0_scheme 26 (.aload 5) 2 28 := ⟨by decide +kernel, rfl⟩
theorem eX0_scheme_28 : Dc cX0_scheme 28 (.aload 6) 2 30 := ⟨by decide +kernel, rfl⟩
theorem eX0_scheme_30 : Db cX0_scheme 30 (fun o => .if_acmp .eq o) 53 33 := ⟨23, by decide +kernel, by decide, rfl⟩
theorem eX0_scheme_33 : Dc cX0_scheme 33 (.iload_n 3) 1 34 := ⟨by decide +kernel, rfl⟩
theorem eX0_scheme_34 : Dc cX0_scheme 34 (.iconst 0) 1 35 := ⟨by decide +kernel, rfl⟩
theorem eX0_scheme_35 : Dc cX0_scheme 35 (.iconst 1) 1 36 := ⟨by decide +kernel, rfl⟩
theorem eX0_scheme_36 : Dc cX0_scheme 36 (.invokestatic 3) 3 39 := ⟨by decide +kernel, rfl⟩
theorem eX0_scheme_39 : Db cX0_scheme 39 (fun o => .ifCond .eq o) 53 42 := ⟨14, by decide +kernel, by decide, rfl⟩
theorem eX0_scheme_42 : Dc cX0_scheme 42 (.iload 4) 2 44 := ⟨by decide +kernel, rfl⟩
theorem eX0_scheme_44 : Dc cX0_scheme 44 (.iconst 1) 1 45 := ⟨by decide +kernel, rfl⟩
theorem eX0_scheme_45 : Dc cX0_scheme 45 (.bipush 99) 2 47 := ⟨by decide +kernel, rfl⟩
theorem eX0_scheme_47 : Dc cX0_scheme 47 (.invokestatic 3) 3 50 := ⟨by decide +kernel, rfl⟩
theorem eX0_scheme_50 : Db cX0_scheme 50 (fun o => .ifCond .ne o) 56 53 := ⟨6, by decide +kernel, by decide, rfl⟩
theorem eX0_scheme_53 : Dc cX0_scheme 53 (.bipush (-2)) 2 55 := ⟨by decide +kernel, rfl⟩
theorem eX0_scheme_55 : Dc cX0_scheme 55 (.ireturn) 1 56 := ⟨by decide +kernel, rfl⟩
theorem eX0_scheme_56 : Dc cX0_scheme 56 (.aload_n 0) 1 57 := ⟨by decide +kernel, rfl⟩
theorem eX0_scheme_57 : Dc cX0_scheme 57 (.invokevirtual 187) 3 60 := ⟨by decide +kernel, rfl⟩
theorem eX0_scheme_60 : Db cX0_scheme 60 (fun o => .ifCond .ne o) 72 63 := ⟨12, by decide +kernel, by decide, rfl⟩
theorem eX0_scheme_63 : Dc cX0_scheme 63 (.aload_n 0) 1 64 := ⟨by decide +kernel, rfl⟩
theorem eX0_scheme_64 : Dc cX0_scheme 64 (.getfield 191) 3 67 := ⟨by decide +kernel, rfl⟩
theorem eX0_scheme_67 : Dc cX0_scheme 67 (.bipush 12) 2 69 := ⟨by decide +kernel, rfl⟩
theorem eX0_scheme_69 : Db cX0_scheme 69 (fun o => .if_icmp .ne o) 77 72 := ⟨8, by decide +kernel, by decide, rfl⟩
theorem eX0_scheme_72 : Dc cX0_scheme 72 (.bipush (-4)) 2 74 := ⟨by decide +kernel, rfl⟩
theorem eX0_scheme_74 : Db cX0_scheme 74 (fun o => .goto o) 117 77 := ⟨43, by decide +kernel, by decide, rfl⟩
theorem eX0_scheme_77 : Dc cX0_scheme 77 (.aload_n 0) 1 78 := ⟨by decide +kernel, rfl⟩
theorem eX0_scheme_78 : Dc cX0_scheme 78 (.new 130) 3 81 := ⟨by decide +kernel, rfl⟩
theorem eX0_scheme_81 : Dc cX0_scheme 81 (.dup) 1 82 := ⟨by decide +kernel, rfl⟩
theorem eX0_scheme_82 : Dc cX0_scheme 82 (.aload_n 0) 1 83 := ⟨by decide +kernel, rfl⟩
theorem eX0_scheme_83 : Dc cX0_scheme 83 (.getfield 121) 3 86 := ⟨by decide +kernel, rfl⟩
theorem eX0_scheme_86 : Dc cX0_scheme 86 (.invokevirtual 32) 3 89 := ⟨by decide +kernel, rfl⟩
theorem eX0_scheme_89 : Dc cX0_scheme 89 (.aload_n 0) 1 90 := ⟨by decide +kernel, rfl⟩
theorem eX0_scheme_90 : Dc cX0_scheme 90 (.getfield 194) 3 93 := ⟨by decide +kernel, rfl⟩
theorem eX0_scheme_93 : Dc cX0_scheme 93 (.aload_n 0) 1 94 := ⟨by decide +kernel, rfl⟩
theorem eX0_scheme_94 : Dc cX0_scheme 94 (.dup) 1 95 := ⟨by decide +kernel, rfl⟩
theorem eX0_scheme_95 : Dc cX0_scheme 95 (.getfield 191) 3 98 := ⟨by decide +kernel, rfl⟩
theorem eX0_scheme_98 : Dc cX0_scheme 98 (.dup_x1) 1 99 := ⟨by decide +kernel, rfl⟩
theorem eX0_scheme_99 : Dc cX0_scheme 99 (.iconst 1) 1 100 := ⟨by decide +kernel, rfl⟩
theorem eX0_scheme_100 : Dc cX0_scheme 100 (.iadd) 1 101 := ⟨by decide +kernel, rfl⟩
theorem eX0_scheme_101 : Dc cX0_scheme 101 (.putfield 191) 3 104 := ⟨by decide +kernel, rfl⟩
theorem eX0_scheme_104 : Dc cX0_scheme 104 (.aload 5) 2 106 := ⟨by decide +kernel, rfl⟩
theorem eX0_scheme_106 : Dc cX0_scheme 106 (.aload 6) 2 108 := ⟨by decide +kernel, rfl⟩
theorem eX0_scheme_108 : Dc cX0_scheme 108 (.iload_n 3) 1 109 := ⟨by decide +kernel, rfl⟩
theorem eX0_scheme_109 : Dc cX0_scheme 109 (.iload 4) 2 111 := ⟨by decide +kernel, rfl⟩
theorem eX0_scheme_111 : Dc cX0_scheme 111 (.invokespecial 197) 3 114 := ⟨by decide +kernel, rfl⟩
theorem eX0_scheme_114 : Dc cX0_scheme 114 (.invokevirtual 200) 3 117 := ⟨by decide +kernel, rfl⟩
theorem eX0_scheme_117 : Dc cX0_scheme 117 (.ireturn) 1 118 := ⟨by decide +kernel, rfl⟩
theorem eX0_townAt_0 : Dc cX0_townAt 0 (.iload_n 1) 1 1 := ⟨by decide +kernel, rfl⟩
theorem eX0_townAt_1 : Db cX0_townAt 1 (fun o => .ifCond .lt o) 15 4 := ⟨14, by decide +kernel, by decide, rfl⟩
theorem eX0_townAt_4 : Dc cX0_townAt 4 (.iload_n 1) 1 5 := ⟨by decide +kernel, rfl⟩
theorem eX0_townAt_5 : Dc cX0_townAt 5 (.aload_n 0) 1 6 := ⟨by decide +kernel, rfl⟩
theorem eX0_townAt_6 : Dc cX0_townAt 6 (.getfield 28) 3 9 := ⟨by decide +kernel, rfl⟩
theorem eX0_townAt_9 : Dc cX0_townAt 9 (.invokevirtual 32) 3 12 := ⟨by decide +kernel, rfl⟩
theorem eX0_townAt_12 : Db cX0_townAt 12 (fun o => .if_icmp .lt o) 19 15 := ⟨7, by decide +kernel, by decide, rfl⟩
theorem eX0_townAt_15 : Dc cX0_townAt 15 (.aconst_null) 1 16 := ⟨by decide +kernel, rfl⟩
theorem eX0_townAt_16 : Db cX0_townAt 16 (fun o => .goto o) 30 19 := ⟨14, by decide +kernel, by decide, rfl⟩
theorem eX0_townAt_19 : Dc cX0_townAt 19 (.aload_n 0) 1 20 := ⟨by decide +kernel, rfl⟩
theorem eX0_townAt_20 : Dc cX0_townAt 20 (.getfield 28) 3 23 := ⟨by decide +kernel, rfl⟩
theorem eX0_townAt_23 : Dc cX0_townAt 23 (.iload_n 1) 1 24 := ⟨by decide +kernel, rfl⟩
theorem eX0_townAt_24 : Dc cX0_townAt 24 (.invokevirtual 38) 3 27 := ⟨by decide +kernel, rfl⟩
theorem eX0_townAt_27 : Dc cX0_townAt 27 (.checkcast 42) 3 30 := ⟨by decide +kernel, rfl⟩
theorem eX0_townAt_30 : Dc cX0_townAt 30 (.areturn) 1 31 := ⟨by decide +kernel, rfl⟩
theorem eX0_isFull_0 : Dc cX0_isFull 0 (.aload_n 0) 1 1 := ⟨by decide +kernel, rfl⟩
theorem eX0_isFull_1 : Dc cX0_isFull 1 (.getfield 121) 3 4 := ⟨by decide +kernel, rfl⟩
theorem eX0_isFull_4 : Dc cX0_isFull 4 (.invokevirtual 32) 3 7 := ⟨by decide +kernel, rfl⟩
theorem eX0_isFull_7 : Dc cX0_isFull 7 (.bipush 60) 2 9 := ⟨by decide +kernel, rfl⟩
theorem eX0_isFull_9 : Db cX0_isFull 9 (fun o => .if_icmp .ne o) 16 12 := ⟨7, by decide +kernel, by decide, rfl⟩
theorem eX0_isFull_12 : Dc cX0_isFull 12 (.iconst 1) 1 13 := ⟨by decide +kernel, rfl⟩
theorem eX0_isFull_13 : Db cX0_isFull 13 (fun o => .goto o) 17 16 := ⟨4, by decide +kernel, by decide, rfl⟩
theorem eX0_isFull_16 : Dc cX0_isFull 16 (.iconst 0) 1 17 := ⟨by decide +kernel, rfl⟩
theorem eX0_isFull_17 : Dc cX0_isFull 17 (.ireturn) 1 18 := ⟨by decide +kernel, rfl⟩
theorem eX0_add_0 : Dc cX0_add 0 (.aload_n 0) 1 1 := ⟨by decide +kernel, rfl⟩
theorem eX0_add_1 : Dc cX0_add 1 (.getfield 121) 3 4 := ⟨by decide +kernel, rfl⟩
theorem eX0_add_4 : Dc cX0_add 4 (.aload_n 1) 1 5 := ⟨by decide +kernel, rfl⟩
theorem eX0_add_5 : Dc cX0_add 5 (.invokevirtual 52) 3 8 := ⟨by decide +kernel, rfl⟩
theorem eX0_add_8 : Dc cX0_add 8 (.pop) 1 9 := ⟨by decide +kernel, rfl⟩
theorem eX0_add_9 : Dc cX0_add 9 (.aload_n 1) 1 10 := ⟨by decide +kernel, rfl⟩
theorem eX0_add_10 : Dc cX0_add 10 (.getfield 138) 3 13 := ⟨by decide +kernel, rfl⟩
theorem eX0_add_13 : Dc cX0_add 13 (.ireturn) 1 14 := ⟨by decide +kernel, rfl⟩
theorem eX0_chain_0 : Dc cX0_chain 0 (.aload_n 0) 1 1 := ⟨by decide +kernel, rfl⟩
theorem eX0_chain_1 : Dc cX0_chain 1 (.iload_n 1) 1 2 := ⟨by decide +kernel, rfl⟩
theorem eX0_chain_2 : Dc cX0_chain 2 (.invokevirtual 244) 3 5 := ⟨by decide +kernel, rfl⟩
theorem eX0_chain_5 : Dc cX0_chain 5 (.astore 4) 2 7 := ⟨by decide +kernel, rfl⟩
theorem eX0_chain_7 : Dc cX0_chain 7 (.aload 4) 2 9 := ⟨by decide +kernel, rfl⟩
theorem eX0_chain_9 : Db cX0_chain 9 (fun o => .ifnull o) 26 12 := ⟨17, by decide +kernel, by decide, rfl⟩
theorem eX0_chain_12 : Dc cX0_chain 12 (.iload_n 2) 1 13 := ⟨by decide +kernel, rfl⟩
theorem eX0_chain_13 : Dc cX0_chain 13 (.invokestatic 248) 3 16 := ⟨by decide +kernel, rfl⟩
theorem eX0_chain_16 : Db cX0_chain 16 (fun o => .ifCond .eq o) 26 19 := ⟨10, by decide +kernel, by decide, rfl⟩
theorem eX0_chain_19 : Dc cX0_chain 19 (.iload_n 3) 1 20 := ⟨by decide +kernel, rfl⟩
theorem eX0_chain_20 : Dc cX0_chain 20 (.invokestatic 248) 3 23 := ⟨by decide +kernel, rfl⟩
theorem eX0_chain_23 : Db cX0_chain 23 (fun o => .ifCond .ne o) 28 26 := ⟨5, by decide +kernel, by decide, rfl⟩
theorem eX0_chain_26 : Dc cX0_chain 26 (.iconst (-1)) 1 27 := ⟨by decide +kernel, rfl⟩
theorem eX0_chain_27 : Dc cX0_chain 27 (.ireturn) 1 28 := ⟨by decide +kernel, rfl⟩
theorem eX0_chain_28 : Dc cX0_chain 28 (.aload_n 0) 1 29 := ⟨by decide +kernel, rfl⟩
theorem eX0_chain_29 : Dc cX0_chain 29 (.getfield 179) 3 32 := ⟨by decide +kernel, rfl⟩
theorem eX0_chain_32 : Dc cX0_chain 32 (.iload_n 2) 1 33 := ⟨by decide +kernel, rfl⟩
theorem eX0_chain_33 : Dc cX0_chain 33 (.aaload) 1 34 := ⟨by decide +kernel, rfl⟩
theorem eX0_chain_34 : Db cX0_chain 34 (fun o => .ifnonnull o) 40 37 := ⟨6, by decide +kernel, by decide, rfl⟩
theorem eX0_chain_37 : Dc cX0_chain 37 (.bipush (-11)) 2 39 := ⟨by decide +kernel, rfl⟩
theorem eX0_chain_39 : Dc cX0_chain 39 (.ireturn) 1 40 := ⟨by decide +kernel, rfl⟩
theorem eX0_chain_40 : Dc cX0_chain 40 (.aload_n 0) 1 41 := ⟨by decide +kernel, rfl⟩
theorem eX0_chain_41 : Dc cX0_chain 41 (.getfield 179) 3 44 := ⟨by decide +kernel, rfl⟩
theorem eX0_chain_44 : Dc cX0_chain 44 (.iload_n 2) 1 45 := ⟨by decide +kernel, rfl⟩
theorem eX0_chain_45 : Dc cX0_chain 45 (.aaload) 1 46 := ⟨by decide +kernel, rfl⟩
theorem eX0_chain_46 : Dc cX0_chain 46 (.instanceof 251) 3 49 := ⟨by decide +kernel, rfl⟩
theorem eX0_chain_49 : Db cX0_chain 49 (fun o => .ifCond .ne o) 55 52 := ⟨6, by decide +kernel, by decide, rfl⟩
theorem eX0_chain_52 : Dc cX0_chain 52 (.bipush (-13)) 2 54 := ⟨by decide +kernel, rfl⟩
theorem eX0_chain_54 : Dc cX0_chain 54 (.ireturn) 1 55 := ⟨by decide +kernel, rfl⟩
theorem eX0_chain_55 : Dc cX0_chain 55 (.aload_n 0) 1 56 := ⟨by decide +kernel, rfl⟩
theorem eX0_chain_56 : Dc cX0_chain 56 (.invokevirtual 187) 3 59 := ⟨by decide +kernel, rfl⟩
theorem eX0_chain_59 : Db cX0_chain 59 (fun o => .ifCond .eq o) 65 62 := ⟨6, by decide +kernel, by decide, rfl⟩
theorem eX0_chain_62 : Dc cX0_chain 62 (.bipush (-4)) 2 64 := ⟨by decide +kernel, rfl⟩
theorem eX0_chain_64 : Dc cX0_chain 64 (.ireturn) 1 65 := ⟨by decide +kernel, rfl⟩
theorem eX0_chain_65 : Dc cX0_chain 65 (.new 134) 3 68 := ⟨by decide +kernel, rfl⟩
theorem eX0_chain_68 : Dc cX0_chain 68 (.dup) 1 69 := ⟨by decide +kernel, rfl⟩
theorem eX0_chain_69 : Dc cX0_chain 69 (.aload_n 0) 1 70 := ⟨by decide +kernel, rfl⟩
theorem eX0_chain_70 : Dc cX0_chain 70 (.getfield 121) 3 73 := ⟨by decide +kernel, rfl⟩
theorem eX0_chain_73 : Dc cX0_chain 73 (.invokevirtual 32) 3 76 := ⟨by decide +kernel, rfl⟩
theorem eX0_chain_76 : Dc cX0_chain 76 (.aload_n 0) 1 77 := ⟨by decide +kernel, rfl⟩
theorem eX0_chain_77 : Dc cX0_chain 77 (.getfield 194) 3 80 := ⟨by decide +kernel, rfl⟩
theorem eX0_chain_80 : Dc cX0_chain 80 (.aload 4) 2 82 := ⟨by decide +kernel, rfl⟩
theorem eX0_chain_82 : Dc cX0_chain 82 (.invokespecial 253) 3 85 := ⟨by decide +kernel, rfl⟩
theorem eX0_chain_85 : Dc cX0_chain 85 (.astore 5) 2 87 := ⟨by decide +kernel, rfl⟩
theorem eX0_chain_87 : Dc cX0_chain 87 (.aload_n 0) 1 88 := ⟨by decide +kernel, rfl⟩
theorem eX0_chain_88 : Dc cX0_chain 88 (.aload 5) 2 90 := ⟨by decide +kernel, rfl⟩
theorem eX0_chain_90 : Dc cX0_chain 90 (.aload_n 0) 1 91 := ⟨by decide +kernel, rfl⟩
theorem eX0_chain_91 : Dc cX0_chain 91 (.getfield 179) 3 94 := ⟨by decide +kernel, rfl⟩
theorem eX0_chain_94 : Dc cX0_chain 94 (.iload_n 2) 1 95 := ⟨by decide +kernel, rfl⟩
theorem eX0_chain_95 : Dc cX0_chain 95 (.aaload) 1 96 := ⟨by decide +kernel, rfl⟩
theorem eX0_chain_96 : Dc cX0_chain 96 (.invokevirtual 256) 3 99 := ⟨by decide +kernel, rfl⟩
theorem eX0_chain_99 : Db cX0_chain 99 (fun o => .goto o) 114 102 := ⟨15, by decide +kernel, by decide, rfl⟩
theorem eX0_chain_102 : Dc cX0_chain 102 (.astore 6) 2 104 := ⟨by decide +kernel, rfl⟩
theorem eX0_chain_104 : Dc cX0_chain 104 (.aload 5) 2 106 := ⟨by decide +kernel, rfl⟩
theorem eX0_chain_106 : Dc cX0_chain 106 (.aload 6) 2 108 := ⟨by decide +kernel, rfl⟩
theorem eX0_chain_108 : Dc cX0_chain 108 (.getfield 260) 3 111 := ⟨by decide +kernel, rfl⟩
theorem eX0_chain_111 : Dc cX0_chain 111 (.putfield 261) 3 114 := ⟨by decide +kernel, rfl⟩
theorem eX0_chain_114 : Dc cX0_chain 114 (.aload_n 0) 1 115 := ⟨by decide +kernel, rfl⟩
theorem eX0_chain_115 : Dc cX0_chain 115 (.aload 5) 2 117 := ⟨by decide +kernel, rfl⟩
theorem eX0_chain_117 : Dc cX0_chain 117 (.aload_n 0) 1 118 := ⟨by decide +kernel, rfl⟩
theorem eX0_chain_118 : Dc cX0_chain 118 (.getfield 179) 3 121 := ⟨by decide +kernel, rfl⟩
theorem eX0_chain_121 : Dc cX0_chain 121 (.iload_n 3) 1 122 := ⟨by decide +kernel, rfl⟩
theorem eX0_chain_122 : Dc cX0_chain 122 (.aaload) 1 123 := ⟨by decide +kernel, rfl⟩
theorem eX0_chain_123 : Dc cX0_chain 123 (.invokevirtual 264) 3 126 := ⟨by decide +kernel, rfl⟩
theorem eX0_chain_126 : Dc cX0_chain 126 (.aload_n 0) 1 127 := ⟨by decide +kernel, rfl⟩
theorem eX0_chain_127 : Dc cX0_chain 127 (.aload 5) 2 129 := ⟨by decide +kernel, rfl⟩
theorem eX0_chain_129 : Dc cX0_chain 129 (.invokevirtual 200) 3 132 := ⟨by decide +kernel, rfl⟩
theorem eX0_chain_132 : Dc cX0_chain 132 (.ireturn) 1 133 := ⟨by decide +kernel, rfl⟩
theorem eX0_schemeAt_0 : Dc cX0_schemeAt 0 (.aload_n 0) 1 1 := ⟨by decide +kernel, rfl⟩
theorem eX0_schemeAt_1 : Dc cX0_schemeAt 1 (.iload_n 1) 1 2 := ⟨by decide +kernel, rfl⟩
theorem eX0_schemeAt_2 : Dc cX0_schemeAt 2 (.invokevirtual 126) 3 5 := ⟨by decide +kernel, rfl⟩
theorem eX0_schemeAt_5 : Dc cX0_schemeAt 5 (.astore_n 3) 1 6 := ⟨by decide +kernel, rfl⟩
theorem eX0_schemeAt_6 : Dc cX0_schemeAt 6 (.aload_n 3) 1 7 := ⟨by decide +kernel, rfl⟩
theorem eX0_schemeAt_7 : Dc cX0_schemeAt 7 (.instanceof 130) 3 10 := ⟨by decide +kernel, rfl⟩
theorem eX0_schemeAt_10 : Db cX0_schemeAt 10 (fun o => .ifCond .eq o) 30 13 := ⟨20, by decide +kernel, by decide, rfl⟩
theorem eX0_schemeAt_13 : Dc cX0_schemeAt 13 (.aload_n 3) 1 14 := ⟨by decide +kernel, rfl⟩
theorem eX0_schemeAt_14 : Dc cX0_schemeAt 14 (.checkcast 130) 3 17 := ⟨by decide +kernel, rfl⟩
theorem eX0_schemeAt_17 : Dc cX0_schemeAt 17 (.astore_n 2) 1 18 := ⟨by decide +kernel, rfl⟩
theorem eX0_schemeAt_18 : Dc cX0_schemeAt 18 (.aload_n 2) 1 19 := ⟨by decide +kernel, rfl⟩
theorem eX0_schemeAt_19 : Dc cX0_schemeAt 19 (.invokevirtual 132) 3 22 := ⟨by decide +kernel, rfl⟩
theorem eX0_schemeAt_22 : Dc cX0_schemeAt 22 (.iconst 1) 1 23 := ⟨by decide +kernel, rfl⟩
theorem eX0_schemeAt_23 : Db cX0_schemeAt 23 (fun o => .if_icmp .ne o) 30 26 := ⟨7, by decide +kernel, by decide, rfl⟩
theorem eX0_schemeAt_26 : Dc cX0_schemeAt 26 (.aload_n 2) 1 27 := ⟨by decide +kernel, rfl⟩
theorem eX0_schemeAt_27 : Db cX0_schemeAt 27 (fun o => .goto o) 31 30 := ⟨4, by decide +kernel, by decide, rfl⟩
theorem eX0_schemeAt_30 : Dc cX0_schemeAt 30 (.aconst_null) 1 31 := ⟨by decide +kernel, rfl⟩
theorem eX0_schemeAt_31 : Dc cX0_schemeAt 31 (.areturn) 1 32 := ⟨by decide +kernel, rfl⟩
theorem eX0_paperAt_0 : Dc cX0_paperAt 0 (.iload_n 1) 1 1 := ⟨by decide +kernel, rfl⟩
theorem eX0_paperAt_1 : Db cX0_paperAt 1 (fun o => .ifCond .lt o) 15 4 := ⟨14, by decide +kernel, by decide, rfl⟩
theorem eX0_paperAt_4 : Dc cX0_paperAt 4 (.iload_n 1) 1 5 := ⟨by decide +kernel, rfl⟩
theorem eX0_paperAt_5 : Dc cX0_paperAt 5 (.aload_n 0) 1 6 := ⟨by decide +kernel, rfl⟩
theorem eX0_paperAt_6 : Dc cX0_paperAt 6 (.getfield 121) 3 9 := ⟨by decide +kernel, rfl⟩
theorem eX0_paperAt_9 : Dc cX0_paperAt 9 (.invokevirtual 32) 3 12 := ⟨by decide +kernel, rfl⟩
theorem eX0_paperAt_12 : Db cX0_paperAt 12 (fun o => .if_icmp .lt o) 19 15 := ⟨7, by decide +kernel, by decide, rfl⟩
theorem eX0_paperAt_15 : Dc cX0_paperAt 15 (.aconst_null) 1 16 := ⟨by decide +kernel, rfl⟩
theorem eX0_paperAt_16 : Db cX0_paperAt 16 (fun o => .goto o) 30 19 := ⟨14, by decide +kernel, by decide, rfl⟩
theorem eX0_paperAt_19 : Dc cX0_paperAt 19 (.aload_n 0) 1 20 := ⟨by decide +kernel, rfl⟩
theorem eX0_paperAt_20 : Dc cX0_paperAt 20 (.getfield 121) 3 23 := ⟨by decide +kernel, rfl⟩
theorem eX0_paperAt_23 : Dc cX0_paperAt 23 (.iload_n 1) 1 24 := ⟨by decide +kernel, rfl⟩
theorem eX0_paperAt_24 : Dc cX0_paperAt 24 (.invokevirtual 38) 3 27 := ⟨by decide +kernel, rfl⟩
theorem eX0_paperAt_27 : Dc cX0_paperAt 27 (.checkcast 124) 3 30 := ⟨by decide +kernel, rfl⟩
theorem eX0_paperAt_30 : Dc cX0_paperAt 30 (.areturn) 1 31 := ⟨by decide +kernel, rfl⟩
theorem eX0_isSheet_0 : Dc cX0_isSheet 0 (.iload_n 0) 1 1 := ⟨by decide +kernel, rfl⟩
theorem eX0_isSheet_1 : Dc cX0_isSheet 1 (.iconst 0) 1 2 := ⟨by decide +kernel, rfl⟩
theorem eX0_isSheet_2 : Dc cX0_isSheet 2 (.iconst 3) 1 3 := ⟨by decide +kernel, rfl⟩
theorem eX0_isSheet_3 : Dc cX0_isSheet 3 (.invokestatic 3) 3 6 := ⟨by decide +kernel, rfl⟩
theorem eX0_isSheet_6 : Dc cX0_isSheet 6 (.ireturn) 1 7 := ⟨by decide +kernel, rfl⟩
theorem eX0_walk_0 : Dc cX0_walk 0 (.iconst 0) 1 1 := ⟨by decide +kernel, rfl⟩
theorem eX0_walk_1 : Dc cX0_walk 1 (.istore_n 3) 1 2 := ⟨by decide +kernel, rfl⟩
theorem eX0_walk_2 : Dc cX0_walk 2 (.iload_n 3) 1 3 := ⟨by decide +kernel, rfl⟩
theorem eX0_walk_3 : Db cX0_walk 3 (fun o => .ifCond .eq o) 24 6 := ⟨21, by decide +kernel, by decide, rfl⟩
theorem eX0_walk_6 : Dc cX0_walk 6 (.aload_n 1) 1 7 := ⟨by decide +kernel, rfl⟩
theorem eX0_walk_7 : Dc cX0_walk 7 (.getfield 203) 3 10 := ⟨by decide +kernel, rfl⟩
theorem eX0_walk_10 : Dc cX0_walk 10 (.iload_n 3) 1 11 := ⟨by decide +kernel, rfl⟩
theorem eX0_walk_11 : Dc cX0_walk 11 (.iconst 1) 1 12 := ⟨by decide +kernel, rfl⟩
theorem eX0_walk_12 : Dc cX0_walk 12 (.isub) 1 13 := ⟨by decide +kernel, rfl⟩
theorem eX0_walk_13 : Dc cX0_walk 13 (.iaload) 1 14 := ⟨by decide +kernel, rfl⟩
theorem eX0_walk_14 : Dc cX0_walk 14 (.aload_n 1) 1 15 := ⟨by decide +kernel, rfl⟩
theorem eX0_walk_15 : Dc cX0_walk 15 (.getfield 206) 3 18 := ⟨by decide +kernel, rfl⟩
theorem eX0_walk_18 : Dc cX0_walk 18 (.getfield 44) 3 21 := ⟨by decide +kernel, rfl⟩
theorem eX0_walk_21 : Db cX0_walk 21 (fun o => .if_icmp .eq o) 133 24 := ⟨112, by decide +kernel, by decide, rfl⟩
theorem eX0_walk_24 : Dc cX0_walk 24 (.iload_n 3) 1 25 := ⟨by decide +kernel, rfl⟩
theorem eX0_walk_25 : Dc cX0_walk 25 (.aload_n 2) 1 26 := ⟨by decide +kernel, rfl⟩
theorem eX0_walk_26 : Dc cX0_walk 26 (.invokevirtual 210) 3 29 := ⟨by decide +kernel, rfl⟩
theorem eX0_walk_29 : Db cX0_walk 29 (fun o => .if_icmp .lt o) 41 32 := ⟨12, by decide +kernel, by decide, rfl⟩
theorem eX0_walk_32 : Dc cX0_walk 32 (.new 211) 3 35 := ⟨by decide +kernel, rfl⟩
theorem eX0_walk_35 : Dc cX0_walk 35 (.dup) 1 36 := ⟨by decide +kernel, rfl⟩
theorem eX0_walk_36 : Dc cX0_walk 36 (.iload_n 3) 1 37 := ⟨by decide +kernel, rfl⟩
theorem eX0_walk_37 : Dc cX0_walk 37 (.invokespecial 213) 3 40 := ⟨by decide +kernel, rfl⟩
theorem eX0_walk_40 : Dc cX0_walk 40 (.athrow) 1 41 := ⟨by decide +kernel, rfl⟩
theorem eX0_walk_41 : Dc cX0_walk 41 (.aload_n 2) 1 42 := ⟨by decide +kernel, rfl⟩
theorem eX0_walk_42 : Dc cX0_walk 42 (.iload_n 3) 1 43 := ⟨by decide +kernel, rfl⟩
theorem eX0_walk_43 : Dc cX0_walk 43 (.invokevirtual 216) 3 46 := ⟨by decide +kernel, rfl⟩
theorem eX0_walk_46 : Dc cX0_walk 46 (.istore 4) 2 48 := ⟨by decide +kernel, rfl⟩
theorem eX0_walk_48 : Dc cX0_walk 48 (.iload 4) 2 50 := ⟨by decide +kernel, rfl⟩
theorem eX0_walk_50 : Dc cX0_walk 50 (.invokestatic 24) 3 53 := ⟨by decide +kernel, rfl⟩
theorem eX0_walk_53 : Db cX0_walk 53 (fun o => .ifCond .eq o) 100 56 := ⟨47, by decide +kernel, by decide, rfl⟩
theorem eX0_walk_56 : Dc cX0_walk 56 (.aload_n 1) 1 57 := ⟨by decide +kernel, rfl⟩
theorem eX0_walk_57 : Dc cX0_walk 57 (.iload 4) 2 59 := ⟨by decide +kernel, rfl⟩
theorem eX0_walk_59 : Dc cX0_walk 59 (.invokevirtual 218) 3 62 := ⟨by decide +kernel, rfl⟩
theorem eX0_walk_62 : Db cX0_walk 62 (fun o => .ifCond .ne o) 100 65 := ⟨38, by decide +kernel, by decide, rfl⟩
theorem eX0_walk_65 : Dc cX0_walk 65 (.iload_n 3) 1 66 := ⟨by decide +kernel, rfl⟩
theorem eX0_walk_66 : Db cX0_walk 66 (fun o => .ifCond .ne o) 84 69 := ⟨18, by decide +kernel, by decide, rfl⟩
theorem eX0_walk_69 : Dc cX0_walk 69 (.iload 4) 2 71 := ⟨by decide +kernel, rfl⟩
theorem eX0_walk_71 : Dc cX0_walk 71 (.aload_n 1) 1 72 := ⟨by decide +kernel, rfl⟩
theorem eX0_walk_72 : Dc cX0_walk 72 (.getfield 221) 3 75 := ⟨by decide +kernel, rfl⟩
theorem eX0_walk_75 : Dc cX0_walk 75 (.getfield 44) 3 78 := ⟨by decide +kernel, rfl⟩
theorem eX0_walk_78 : Db cX0_walk 78 (fun o => .if_icmp .eq o) 109 81 := ⟨31, by decide +kernel, by decide, rfl⟩
theorem eX0_walk_81 : Db cX0_walk 81 (fun o => .goto o) 100 84 := ⟨19, by decide +kernel, by decide, rfl⟩
theorem eX0_walk_84 : Dc cX0_walk 84 (.aload_n 1) 1 85 := ⟨by decide +kernel, rfl⟩
theorem eX0_walk_85 : Dc cX0_walk 85 (.getfield 203) 3 88 := ⟨by decide +kernel, rfl⟩
theorem eX0_walk_88 : Dc cX0_walk 88 (.iload_n 3) 1 89 := ⟨by decide +kernel, rfl⟩
theorem eX0_walk_89 : Dc cX0_walk 89 (.iconst 1) 1 90 := ⟨by decide +kernel, rfl⟩
theorem eX0_walk_90 : Dc cX0_walk 90 (.isub) 1 91 := ⟨by decide +kernel, rfl⟩
theorem eX0_walk_91 : Dc cX0_walk 91 (.iaload) 1 92 := ⟨by decide +kernel, rfl⟩
theorem eX0_walk_92 : Dc cX0_walk 92 (.iload 4) 2 94 := ⟨by decide +kernel, rfl⟩
theorem eX0_walk_94 : Dc cX0_walk 94 (.invokestatic 224) 3 97 := ⟨by decide +kernel, rfl⟩
theorem eX0_walk_97 : Db cX0_walk 97 (fun o => .ifCond .ne o) 109 100 := ⟨12, by decide +kernel, by decide, rfl⟩
theorem eX0_walk_100 : Dc cX0_walk 100 (.new 211) 3 103 := ⟨by decide +kernel, rfl⟩
theorem eX0_walk_103 : Dc cX0_walk 103 (.dup) 1 104 := ⟨by decide +kernel, rfl⟩
theorem eX0_walk_104 : Dc cX0_walk 104 (.iload_n 3) 1 105 := ⟨by decide +kernel, rfl⟩
theorem eX0_walk_105 : Dc cX0_walk 105 (.invokespecial 213) 3 108 := ⟨by decide +kernel, rfl⟩
theorem eX0_walk_108 : Dc cX0_walk 108 (.athrow) 1 109 := ⟨by decide +kernel, rfl⟩
theorem eX0_walk_109 : Dc cX0_walk 109 (.aload_n 1) 1 110 := ⟨by decide +kernel, rfl⟩
theorem eX0_walk_110 : Dc cX0_walk 110 (.getfield 203) 3 113 := ⟨by decide +kernel, rfl⟩
theorem eX0_walk_113 : Dc cX0_walk 113 (.aload_n 1) 1 114 := ⟨by decide +kernel, rfl⟩
theorem eX0_walk_114 : Dc cX0_walk 114 (.dup) 1 115 := ⟨by decide +kernel, rfl⟩
theorem eX0_walk_115 : Dc cX0_walk 115 (.getfield 228) 3 118 := ⟨by decide +kernel, rfl⟩
theorem eX0_walk_118 : Dc cX0_walk 118 (.dup_x1) 1 119 := ⟨by decide +kernel, rfl⟩
theorem eX0_walk_119 : Dc cX0_walk 119 (.iconst 1) 1 120 := ⟨by decide +kernel, rfl⟩
theorem eX0_walk_120 : Dc cX0_walk 120 (.iadd) 1 121 := ⟨by decide +kernel, rfl⟩
theorem eX0_walk_121 : Dc cX0_walk 121 (.putfield 228) 3 124 := ⟨by decide +kernel, rfl⟩
theorem eX0_walk_124 : Dc cX0_walk 124 (.iload 4) 2 126 := ⟨by decide +kernel, rfl⟩
theorem eX0_walk_126 : Dc cX0_walk 126 (.iastore) 1 127 := ⟨by decide +kernel, rfl⟩
theorem eX0_walk_127 : Dc cX0_walk 127 (.iinc 3 1) 3 130 := ⟨by decide +kernel, rfl⟩
theorem eX0_walk_130 : Db cX0_walk 130 (fun o => .goto o) 2 133 := ⟨-128, by decide +kernel, by decide, rfl⟩
theorem eX0_walk_133 : Dc cX0_walk 133 (.return_) 1 134 := ⟨by decide +kernel, rfl⟩
theorem eX0_areBeside_0 : Dc cX0_areBeside 0 (.iload_n 0) 1 1 := ⟨by decide +kernel, rfl⟩
theorem eX0_areBeside_1 : Dc cX0_areBeside 1 (.bipush 10) 2 3 := ⟨by decide +kernel, rfl⟩
theorem eX0_areBeside_3 : Dc cX0_areBeside 3 (.irem) 1 4 := ⟨by decide +kernel, rfl⟩
theorem eX0_areBeside_4 : Dc cX0_areBeside 4 (.iload_n 1) 1 5 := ⟨by decide +kernel, rfl⟩
theorem eX0_areBeside_5 : Dc cX0_areBeside 5 (.bipush 10) 2 7 := ⟨by decide +kernel, rfl⟩
theorem eX0_areBeside_7 : Dc cX0_areBeside 7 (.irem) 1 8 := ⟨by decide +kernel, rfl⟩
theorem eX0_areBeside_8 : Dc cX0_areBeside 8 (.isub) 1 9 := ⟨by decide +kernel, rfl⟩
theorem eX0_areBeside_9 : Dc cX0_areBeside 9 (.invokestatic 7) 3 12 := ⟨by decide +kernel, rfl⟩
theorem eX0_areBeside_12 : Dc cX0_areBeside 12 (.iload_n 0) 1 13 := ⟨by decide +kernel, rfl⟩
theorem eX0_areBeside_13 : Dc cX0_areBeside 13 (.bipush 10) 2 15 := ⟨by decide +kernel, rfl⟩
theorem eX0_areBeside_15 : Dc cX0_areBeside 15 (.idiv) 1 16 := ⟨by decide +kernel, rfl⟩
theorem eX0_areBeside_16 : Dc cX0_areBeside 16 (.iload_n 1) 1 17 := ⟨by decide +kernel, rfl⟩
theorem eX0_areBeside_17 : Dc cX0_areBeside 17 (.bipush 10) 2 19 := ⟨by decide +kernel, rfl⟩
theorem eX0_areBeside_19 : Dc cX0_areBeside 19 (.idiv) 1 20 := ⟨by decide +kernel, rfl⟩
theorem eX0_areBeside_20 : Dc cX0_areBeside 20 (.isub) 1 21 := ⟨by decide +kernel, rfl⟩
theorem eX0_areBeside_21 : Dc cX0_areBeside 21 (.invokestatic 7) 3 24 := ⟨by decide +kernel, rfl⟩
theorem eX0_areBeside_24 : Dc cX0_areBeside 24 (.iadd) 1 25 := ⟨by decide +kernel, rfl⟩
theorem eX0_areBeside_25 : Dc cX0_areBeside 25 (.iconst 1) 1 26 := ⟨by decide +kernel, rfl⟩
theorem eX0_areBeside_26 : Db cX0_areBeside 26 (fun o => .if_icmp .ne o) 33 29 := ⟨7, by decide +kernel, by decide, rfl⟩
theorem eX0_areBeside_29 : Dc cX0_areBeside 29 (.iconst 1) 1 30 := ⟨by decide +kernel, rfl⟩
theorem eX0_areBeside_30 : Db cX0_areBeside 30 (fun o => .goto o) 34 33 := ⟨4, by decide +kernel, by decide, rfl⟩
theorem eX0_areBeside_33 : Dc cX0_areBeside 33 (.iconst 0) 1 34 := ⟨by decide +kernel, rfl⟩
theorem eX0_areBeside_34 : Dc cX0_areBeside 34 (.ireturn) 1 35 := ⟨by decide +kernel, rfl⟩
theorem eX0_survey_0 : Dc cX0_survey 0 (.iconst 0) 1 1 := ⟨by decide +kernel, rfl⟩
theorem eX0_survey_1 : Dc cX0_survey 1 (.istore_n 3) 1 2 := ⟨by decide +kernel, rfl⟩
theorem eX0_survey_2 : Dc cX0_survey 2 (.iload_n 3) 1 3 := ⟨by decide +kernel, rfl⟩
theorem eX0_survey_3 : Dc cX0_survey 3 (.aload_n 1) 1 4 := ⟨by decide +kernel, rfl⟩
theorem eX0_survey_4 : Dc cX0_survey 4 (.getfield 228) 3 7 := ⟨by decide +kernel, rfl⟩
theorem eX0_survey_7 : Db cX0_survey 7 (fun o => .if_icmp .ge o) 154 10 := ⟨147, by decide +kernel, by decide, rfl⟩
theorem eX0_survey_10 : Dc cX0_survey 10 (.iload_n 3) 1 11 := ⟨by decide +kernel, rfl⟩
theorem eX0_survey_11 : Db cX0_survey 11 (fun o => .ifCond .ne o) 34 14 := ⟨23, by decide +kernel, by decide, rfl⟩
theorem eX0_survey_14 : Dc cX0_survey 14 (.aload_n 1) 1 15 := ⟨by decide +kernel, rfl⟩
theorem eX0_survey_15 : Dc cX0_survey 15 (.getfield 231) 3 18 := ⟨by decide +kernel, rfl⟩
theorem eX0_survey_18 : Dc cX0_survey 18 (.iconst 0) 1 19 := ⟨by decide +kernel, rfl⟩
theorem eX0_survey_19 : Dc cX0_survey 19 (.aload_n 0) 1 20 := ⟨by decide +kernel, rfl⟩
theorem eX0_survey_20 : Dc cX0_survey 20 (.getfield 13) 3 23 := ⟨by decide +kernel, rfl⟩
theorem eX0_survey_23 : Dc cX0_survey 23 (.aload_n 1) 1 24 := ⟨by decide +kernel, rfl⟩
theorem eX0_survey_24 : Dc cX0_survey 24 (.getfield 203) 3 27 := ⟨by decide +kernel, rfl⟩
theorem eX0_survey_27 : Dc cX0_survey 27 (.iconst 0) 1 28 := ⟨by decide +kernel, rfl⟩
theorem eX0_survey_28 : Dc cX0_survey 28 (.iaload) 1 29 := ⟨by decide +kernel, rfl⟩
theorem eX0_survey_29 : Dc cX0_survey 29 (.iaload) 1 30 := ⟨by decide +kernel, rfl⟩
theorem eX0_survey_30 : Dc cX0_survey 30 (.iastore) 1 31 := ⟨by decide +kernel, rfl⟩
theorem eX0_survey_31 : Db cX0_survey 31 (fun o => .goto o) 148 34 := ⟨117, by decide +kernel, by decide, rfl⟩
theorem eX0_survey_34 : Dc cX0_survey 34 (.aload_n 1) 1 35 := ⟨by decide +kernel, rfl⟩
theorem eX0_survey_35 : Dc cX0_survey 35 (.getfield 231) 3 38 := ⟨by decide +kernel, rfl⟩
theorem eX0_survey_38 : Dc cX0_survey 38 (.iload_n 3) 1 39 := ⟨by decide +kernel, rfl⟩
theorem eX0_survey_39 : Dc cX0_survey 39 (.iconst 1) 1 40 := ⟨by decide +kernel, rfl⟩
theorem eX0_survey_40 : Dc cX0_survey 40 (.isub) 1 41 := ⟨by decide +kernel, rfl⟩
theorem eX0_survey_41 : Dc cX0_survey 41 (.iaload) 1 42 := ⟨by decide +kernel, rfl⟩
theorem eX0_survey_42 : Dc cX0_survey 42 (.ldc 234) 2 44 := ⟨by decide +kernel, rfl⟩
theorem eX0_survey_44 : Db cX0_survey 44 (fun o => .if_icmp .eq o) 64 47 := ⟨20, by decide +kernel, by decide, rfl⟩
theorem eX0_survey_47 : Dc cX0_survey 47 (.aload_n 2) 1 48 := ⟨by decide +kernel, rfl⟩
theorem eX0_survey_48 : Dc cX0_survey 48 (.instanceof 235) 3 51 := ⟨by decide +kernel, rfl⟩
theorem eX0_survey_51 : Db cX0_survey 51 (fun o => .ifCond .eq o) 64 54 := ⟨13, by decide +kernel, by decide, rfl⟩
theorem eX0_survey_54 : Dc cX0_survey 54 (.iload_n 3) 1 55 := ⟨by decide +kernel, rfl⟩
theorem eX0_survey_55 : Dc cX0_survey 55 (.iconst 1) 1 56 := ⟨by decide +kernel, rfl⟩
theorem eX0_survey_56 : Dc cX0_survey 56 (.isub) 1 57 := ⟨by decide +kernel, rfl⟩
theorem eX0_survey_57 : Dc cX0_survey 57 (.aload_n 2) 1 58 := ⟨by decide +kernel, rfl⟩
theorem eX0_survey_58 : Dc cX0_survey 58 (.invokevirtual 210) 3 61 := ⟨by decide +kernel, rfl⟩
theorem eX0_survey_61 : Db cX0_survey 61 (fun o => .if_icmp .lt o) 75 64 := ⟨14, by decide +kernel, by decide, rfl⟩
theorem eX0_survey_64 : Dc cX0_survey 64 (.aload_n 1) 1 65 := ⟨by decide +kernel, rfl⟩
theorem eX0_survey_65 : Dc cX0_survey 65 (.getfield 231) 3 68 := ⟨by decide +kernel, rfl⟩
theorem eX0_survey_68 : Dc cX0_survey 68 (.iload_n 3) 1 69 := ⟨by decide +kernel, rfl⟩
theorem eX0_survey_69 : Dc cX0_survey 69 (.ldc 234) 2 71 := ⟨by decide +kernel, rfl⟩
theorem eX0_survey_71 : Dc cX0_survey 71 (.iastore) 1 72 := ⟨by decide +kernel, rfl⟩
theorem eX0_survey_72 : Db cX0_survey 72 (fun o => .goto o) 148 75 := ⟨76, by decide +kernel, by decide, rfl⟩
theorem eX0_survey_75 : Dc cX0_survey 75 (.aload_n 2) 1 76 := ⟨by decide +kernel, rfl⟩
theorem eX0_survey_76 : Dc cX0_survey 76 (.iload_n 3) 1 77 := ⟨by decide +kernel, rfl⟩
theorem eX0_survey_77 : Dc cX0_survey 77 (.iconst 1) 1 78 := ⟨by decide +kernel, rfl⟩
theorem eX0_survey_78 : Dc cX0_survey 78 (.isub) 1 79 := ⟨by decide +kernel, rfl⟩
theorem eX0_survey_79 : Dc cX0_survey 79 (.invokevirtual 216) 3 82 := ⟨by decide +kernel, rfl⟩
theorem eX0_survey_82 : Dc cX0_survey 82 (.istore 4) 2 84 := ⟨by decide +kernel, rfl⟩
theorem eX0_survey_84 : Dc cX0_survey 84 (.aload_n 1) 1 85 := ⟨by decide +kernel, rfl⟩
theorem eX0_survey_85 : Dc cX0_survey 85 (.getfield 231) 3 88 := ⟨by decide +kernel, rfl⟩
theorem eX0_survey_88 : Dc cX0_survey 88 (.iload_n 3) 1 89 := ⟨by decide +kernel, rfl⟩
theorem eX0_survey_89 : Dc cX0_survey 89 (.aload_n 1) 1 90 := ⟨by decide +kernel, rfl⟩
theorem eX0_survey_90 : Dc cX0_survey 90 (.getfield 231) 3 93 := ⟨by decide +kernel, rfl⟩
theorem eX0_survey_93 : Dc cX0_survey 93 (.iload_n 3) 1 94 := ⟨by decide +kernel, rfl⟩
theorem eX0_survey_94 : Dc cX0_survey 94 (.iconst 1) 1 95 := ⟨by decide +kernel, rfl⟩
theorem eX0_survey_95 : Dc cX0_survey 95 (.isub) 1 96 := ⟨by decide +kernel, rfl⟩
theorem eX0_survey_96 : Dc cX0_survey 96 (.iaload) 1 97 := ⟨by decide +kernel, rfl⟩
theorem eX0_survey_97 : Dc cX0_survey 97 (.iload 4) 2 99 := ⟨by decide +kernel, rfl⟩
theorem eX0_survey_99 : Dc cX0_survey 99 (.ldc 237) 2 101 := ⟨by decide +kernel, rfl⟩
theorem eX0_survey_101 : Db cX0_survey 101 (fun o => .if_icmp .ne o) 132 104 := ⟨31, by decide +kernel, by decide, rfl⟩
theorem eX0_survey_104 : Dc cX0_survey 104 (.aload_n 0) 1 105 := ⟨by decide +kernel, rfl⟩
theorem eX0_survey_105 : Dc cX0_survey 105 (.getfield 13) 3 108 := ⟨by decide +kernel, rfl⟩
theorem eX0_survey_108 : Dc cX0_survey 108 (.aload_n 1) 1 109 := ⟨by decide +kernel, rfl⟩
theorem eX0_survey_109 : Dc cX0_survey 109 (.getfield 203) 3 112 := ⟨by decide +kernel, rfl⟩
theorem eX0_survey_112 : Dc cX0_survey 112 (.iload_n 3) 1 113 := ⟨by decide +kernel, rfl⟩
theorem eX0_survey_113 : Dc cX0_survey 113 (.iaload) 1 114 := ⟨by decide +kernel, rfl⟩
theorem eX0_survey_114 : Dc cX0_survey 114 (.iaload) 1 115 := ⟨by decide +kernel, rfl⟩
theorem eX0_survey_115 : Dc cX0_survey 115 (.aload_n 0) 1 116 := ⟨by decide +kernel, rfl⟩
theorem eX0_survey_116 : Dc cX0_survey 116 (.getfield 13) 3 119 := ⟨by decide +kernel, rfl⟩
theorem eX0_survey_119 : Dc cX0_survey 119 (.aload_n 1) 1 120 := ⟨by decide +kernel, rfl⟩
theorem eX0_survey_120 : Dc cX0_survey 120 (.getfield 203) 3 123 := ⟨by decide +kernel, rfl⟩
theorem eX0_survey_123 : Dc cX0_survey 123 (.iload_n 3) 1 124 := ⟨by decide +kernel, rfl⟩
theorem eX0_survey_124 : Dc cX0_survey 124 (.iconst 1) 1 125 := ⟨by decide +kernel, rfl⟩
theorem eX0_survey_125 : Dc cX0_survey 125 (.isub) 1 126 := ⟨by decide +kernel, rfl⟩
theorem eX0_survey_126 : Dc cX0_survey 126 (.iaload) 1 127 := ⟨by decide +kernel, rfl⟩
theorem eX0_survey_127 : Dc cX0_survey 127 (.iaload) 1 128 := ⟨by decide +kernel, rfl⟩
theorem eX0_survey_128 : Dc cX0_survey 128 (.isub) 1 129 := ⟨by decide +kernel, rfl⟩
theorem eX0_survey_129 : Db cX0_survey 129 (fun o => .goto o) 146 132 := ⟨17, by decide +kernel, by decide, rfl⟩
theorem eX0_survey_132 : Dc cX0_survey 132 (.sipush (-10000)) 3 135 := ⟨by decide +kernel, rfl⟩
theorem eX0_survey_135 : Dc cX0_survey 135 (.sipush 10000) 3 138 := ⟨by decide +kernel, rfl⟩
theorem eX0_survey_138 : Dc cX0_survey 138 (.iload 4) 2 140 := ⟨by decide +kernel, rfl⟩
theorem eX0_survey_140 : Dc cX0_survey 140 (.invokestatic 238) 3 143 := ⟨by decide +kernel, rfl⟩
theorem eX0_survey_143 : Dc cX0_survey 143 (.invokestatic 241) 3 146 := ⟨by decide +kernel, rfl⟩
theorem eX0_survey_146 : Dc cX0_survey 146 (.iadd) 1 147 := ⟨by decide +kernel, rfl⟩
theorem eX0_survey_147 : Dc cX0_survey 147 (.iastore) 1 148 := ⟨by decide +kernel, rfl⟩
theorem eX0_survey_148 : Dc cX0_survey 148 (.iinc 3 1) 3 151 := ⟨by decide +kernel, rfl⟩
theorem eX0_survey_151 : Db cX0_survey 151 (fun o => .goto o) 2 154 := ⟨-149, by decide +kernel, by decide, rfl⟩
theorem eX0_survey_154 : Dc cX0_survey 154 (.return_) 1 155 := ⟨by decide +kernel, rfl⟩
theorem eX0_way_0 : Dc cX0_way 0 (.aload_n 0) 1 1 := ⟨by decide +kernel, rfl⟩
theorem eX0_way_1 : Dc cX0_way 1 (.iload_n 1) 1 2 := ⟨by decide +kernel, rfl⟩
theorem eX0_way_2 : Dc cX0_way 2 (.invokevirtual 269) 3 5 := ⟨by decide +kernel, rfl⟩
theorem eX0_way_5 : Dc cX0_way 5 (.astore_n 3) 1 6 := ⟨by decide +kernel, rfl⟩
theorem eX0_way_6 : Dc cX0_way 6 (.aload_n 3) 1 7 := ⟨by decide +kernel, rfl⟩
theorem eX0_way_7 : Db cX0_way 7 (fun o => .ifnonnull o) 12 10 := ⟨5, by decide +kernel, by decide, rfl⟩
theorem eX0_way_10 : Dc cX0_way 10 (.iconst (-1)) 1 11 := ⟨by decide +kernel, rfl⟩
theorem eX0_way_11 : Dc cX0_way 11 (.ireturn) 1 12 := ⟨by decide +kernel, rfl⟩
theorem eX0_way_12 : Dc cX0_way 12 (.iload_n 2) 1 13 := ⟨by decide +kernel, rfl⟩
theorem eX0_way_13 : Dt cX0_way 13 (0) [40, 45, 50] 56 := ⟨43, 2, #[27, 32, 37], 27, by decide +kernel, by decide, by decide, by decide⟩
theorem eX0_way_40 : Dc cX0_way 40 (.aload_n 3) 1 41 := ⟨by decide +kernel, rfl⟩
theorem eX0_way_41 : Dc cX0_way 41 (.getfield 228) 3 44 := ⟨by decide +kernel, rfl⟩
theorem eX0_way_44 : Dc cX0_way 44 (.ireturn) 1 45 := ⟨by decide +kernel, rfl⟩
theorem eX0_way_45 : Dc cX0_way 45 (.aload_n 3) 1 46 := ⟨by decide +kernel, rfl⟩
theorem eX0_way_46 : Dc cX0_way 46 (.getfield 261) 3 49 := ⟨by decide +kernel, rfl⟩
theorem eX0_way_49 : Dc cX0_way 49 (.ireturn) 1 50 := ⟨by decide +kernel, rfl⟩
theorem eX0_way_50 : Dc cX0_way 50 (.aload_n 0) 1 51 := ⟨by decide +kernel, rfl⟩
theorem eX0_way_51 : Dc cX0_way 51 (.aload_n 3) 1 52 := ⟨by decide +kernel, rfl⟩
theorem eX0_way_52 : Dc cX0_way 52 (.invokevirtual 273) 3 55 := ⟨by decide +kernel, rfl⟩
theorem eX0_way_55 : Dc cX0_way 55 (.ireturn) 1 56 := ⟨by decide +kernel, rfl⟩
theorem eX0_way_56 : Dc cX0_way 56 (.iload_n 2) 1 57 := ⟨by decide +kernel, rfl⟩
theorem eX0_way_57 : Dc cX0_way 57 (.bipush 10) 2 59 := ⟨by decide +kernel, rfl⟩
theorem eX0_way_59 : Dc cX0_way 59 (.bipush 9) 2 61 := ⟨by decide +kernel, rfl⟩
theorem eX0_way_61 : Dc cX0_way 61 (.aload_n 3) 1 62 := ⟨by decide +kernel, rfl⟩
theorem eX0_way_62 : Dc cX0_way 62 (.getfield 228) 3 65 := ⟨by decide +kernel, rfl⟩
theorem eX0_way_65 : Dc cX0_way 65 (.iadd) 1 66 := ⟨by decide +kernel, rfl⟩
theorem eX0_way_66 : Dc cX0_way 66 (.invokestatic 3) 3 69 := ⟨by decide +kernel, rfl⟩
theorem eX0_way_69 : Db cX0_way 69 (fun o => .ifCond .eq o) 84 72 := ⟨15, by decide +kernel, by decide, rfl⟩
theorem eX0_way_72 : Dc cX0_way 72 (.aload_n 3) 1 73 := ⟨by decide +kernel, rfl⟩
theorem eX0_way_73 : Dc cX0_way 73 (.getfield 203) 3 76 := ⟨by decide +kernel, rfl⟩
theorem eX0_way_76 : Dc cX0_way 76 (.iload_n 2) 1 77 := ⟨by decide +kernel, rfl⟩
theorem eX0_way_77 : Dc cX0_way 77 (.bipush 10) 2 79 := ⟨by decide +kernel, rfl⟩
theorem eX0_way_79 : Dc cX0_way 79 (.isub) 1 80 := ⟨by decide +kernel, rfl⟩
theorem eX0_way_80 : Dc cX0_way 80 (.iaload) 1 81 := ⟨by decide +kernel, rfl⟩
theorem eX0_way_81 : Db cX0_way 81 (fun o => .goto o) 85 84 := ⟨4, by decide +kernel, by decide, rfl⟩
theorem eX0_way_84 : Dc cX0_way 84 (.iconst (-1)) 1 85 := ⟨by decide +kernel, rfl⟩
theorem eX0_way_85 : Dc cX0_way 85 (.ireturn) 1 86 := ⟨by decide +kernel, rfl⟩
theorem eX0_planAt_0 : Dc cX0_planAt 0 (.aload_n 0) 1 1 := ⟨by decide +kernel, rfl⟩
theorem eX0_planAt_1 : Dc cX0_planAt 1 (.iload_n 1) 1 2 := ⟨by decide +kernel, rfl⟩
theorem eX0_planAt_2 : Dc cX0_planAt 2 (.invokevirtual 126) 3 5 := ⟨by decide +kernel, rfl⟩
theorem eX0_planAt_5 : Dc cX0_planAt 5 (.astore_n 3) 1 6 := ⟨by decide +kernel, rfl⟩
theorem eX0_planAt_6 : Dc cX0_planAt 6 (.aload_n 3) 1 7 := ⟨by decide +kernel, rfl⟩
theorem eX0_planAt_7 : Dc cX0_planAt 7 (.instanceof 134) 3 10 := ⟨by decide +kernel, rfl⟩
theorem eX0_planAt_10 : Db cX0_planAt 10 (fun o => .ifCond .eq o) 22 13 := ⟨12, by decide +kernel, by decide, rfl⟩
theorem eX0_planAt_13 : Dc cX0_planAt 13 (.aload_n 3) 1 14 := ⟨by decide +kernel, rfl⟩
theorem eX0_planAt_14 : Dc cX0_planAt 14 (.checkcast 134) 3 17 := ⟨by decide +kernel, rfl⟩
theorem eX0_planAt_17 : Dc cX0_planAt 17 (.astore_n 2) 1 18 := ⟨by decide +kernel, rfl⟩
theorem eX0_planAt_18 : Dc cX0_planAt 18 (.aload_n 2) 1 19 := ⟨by decide +kernel, rfl⟩
theorem eX0_planAt_19 : Db cX0_planAt 19 (fun o => .goto o) 23 22 := ⟨4, by decide +kernel, by decide, rfl⟩
theorem eX0_planAt_22 : Dc cX0_planAt 22 (.aconst_null) 1 23 := ⟨by decide +kernel, rfl⟩
theorem eX0_planAt_23 : Dc cX0_planAt 23 (.areturn) 1 24 := ⟨by decide +kernel, rfl⟩
theorem eX0_yardsOf_0 : Dc cX0_yardsOf 0 (.iconst 0) 1 1 := ⟨by decide +kernel, rfl⟩
theorem eX0_yardsOf_1 : Dc cX0_yardsOf 1 (.istore_n 2) 1 2 := ⟨by decide +kernel, rfl⟩
theorem eX0_yardsOf_2 : Dc cX0_yardsOf 2 (.iconst 1) 1 3 := ⟨by decide +kernel, rfl⟩
theorem eX0_yardsOf_3 : Dc cX0_yardsOf 3 (.istore_n 3) 1 4 := ⟨by decide +kernel, rfl⟩
theorem eX0_yardsOf_4 : Dc cX0_yardsOf 4 (.iload_n 3) 1 5 := ⟨by decide +kernel, rfl⟩
theorem eX0_yardsOf_5 : Dc cX0_yardsOf 5 (.aload_n 1) 1 6 := ⟨by decide +kernel, rfl⟩
theorem eX0_yardsOf_6 : Dc cX0_yardsOf 6 (.getfield 228) 3 9 := ⟨by decide +kernel, rfl⟩
theorem eX0_yardsOf_9 : Db cX0_yardsOf 9 (fun o => .if_icmp .ge o) 39 12 := ⟨30, by decide +kernel, by decide, rfl⟩
theorem eX0_yardsOf_12 : Dc cX0_yardsOf 12 (.iload_n 2) 1 13 := ⟨by decide +kernel, rfl⟩
theorem eX0_yardsOf_13 : Dc cX0_yardsOf 13 (.aload_n 0) 1 14 := ⟨by decide +kernel, rfl⟩
theorem eX0_yardsOf_14 : Dc cX0_yardsOf 14 (.aload_n 1) 1 15 := ⟨by decide +kernel, rfl⟩
theorem eX0_yardsOf_15 : Dc cX0_yardsOf 15 (.getfield 203) 3 18 := ⟨by decide +kernel, rfl⟩
theorem eX0_yardsOf_18 : Dc cX0_yardsOf 18 (.iload_n 3) 1 19 := ⟨by decide +kernel, rfl⟩
theorem eX0_yardsOf_19 : Dc cX0_yardsOf 19 (.iconst 1) 1 20 := ⟨by decide +kernel, rfl⟩
theorem eX0_yardsOf_20 : Dc cX0_yardsOf 20 (.isub) 1 21 := ⟨by decide +kernel, rfl⟩
theorem eX0_yardsOf_21 : Dc cX0_yardsOf 21 (.iaload) 1 22 := ⟨by decide +kernel, rfl⟩
theorem eX0_yardsOf_22 : Dc cX0_yardsOf 22 (.aload_n 1) 1 23 := ⟨by decide +kernel, rfl⟩
theorem eX0_yardsOf_23 : Dc cX0_yardsOf 23 (.getfield 203) 3 26 := ⟨by decide +kernel, rfl⟩
theorem eX0_yardsOf_26 : Dc cX0_yardsOf 26 (.iload_n 3) 1 27 := ⟨by decide +kernel, rfl⟩
theorem eX0_yardsOf_27 : Dc cX0_yardsOf 27 (.iaload) 1 28 := ⟨by decide +kernel, rfl⟩
theorem eX0_yardsOf_28 : Dc cX0_yardsOf 28 (.invokevirtual 266) 3 31 := ⟨by decide +kernel, rfl⟩
theorem eX0_yardsOf_31 : Dc cX0_yardsOf 31 (.iadd) 1 32 := ⟨by decide +kernel, rfl⟩
theorem eX0_yardsOf_32 : Dc cX0_yardsOf 32 (.istore_n 2) 1 33 := ⟨by decide +kernel, rfl⟩
theorem eX0_yardsOf_33 : Dc cX0_yardsOf 33 (.iinc 3 1) 3 36 := ⟨by decide +kernel, rfl⟩
theorem eX0_yardsOf_36 : Db cX0_yardsOf 36 (fun o => .goto o) 4 39 := ⟨-32, by decide +kernel, by decide, rfl⟩
theorem eX0_yardsOf_39 : Dc cX0_yardsOf 39 (.iload_n 2) 1 40 := ⟨by decide +kernel, rfl⟩
theorem eX0_yardsOf_40 : Dc cX0_yardsOf 40 (.ireturn) 1 41 := ⟨by decide +kernel, rfl⟩
theorem eX0_yards_0 : Dc cX0_yards 0 (.bipush 10) 2 2 := ⟨by decide +kernel, rfl⟩
theorem eX0_yards_2 : Dc cX0_yards 2 (.iconst 3) 1 3 := ⟨by decide +kernel, rfl⟩
theorem eX0_yards_3 : Dc cX0_yards 3 (.aload_n 0) 1 4 := ⟨by decide +kernel, rfl⟩
theorem eX0_yards_4 : Dc cX0_yards 4 (.iload_n 1) 1 5 := ⟨by decide +kernel, rfl⟩
theorem eX0_yards_5 : Dc cX0_yards 5 (.iload_n 2) 1 6 := ⟨by decide +kernel, rfl⟩
theorem eX0_yards_6 : Dc cX0_yards 6 (.invokevirtual 17) 3 9 := ⟨by decide +kernel, rfl⟩
theorem eX0_yards_9 : Dc cX0_yards 9 (.imul) 1 10 := ⟨by decide +kernel, rfl⟩
theorem eX0_yards_10 : Dc cX0_yards 10 (.iadd) 1 11 := ⟨by decide +kernel, rfl⟩
theorem eX0_yards_11 : Dc cX0_yards 11 (.aload_n 0) 1 12 := ⟨by decide +kernel, rfl⟩
theorem eX0_yards_12 : Dc cX0_yards 12 (.getfield 21) 3 15 := ⟨by decide +kernel, rfl⟩
theorem eX0_yards_15 : Dc cX0_yards 15 (.iload_n 2) 1 16 := ⟨by decide +kernel, rfl⟩
theorem eX0_yards_16 : Dc cX0_yards 16 (.iaload) 1 17 := ⟨by decide +kernel, rfl⟩
theorem eX0_yards_17 : Dc cX0_yards 17 (.iconst 1) 1 18 := ⟨by decide +kernel, rfl⟩
theorem eX0_yards_18 : Db cX0_yards 18 (fun o => .if_icmp .ne o) 26 21 := ⟨8, by decide +kernel, by decide, rfl⟩
theorem eX0_yards_21 : Dc cX0_yards 21 (.bipush 20) 2 23 := ⟨by decide +kernel, rfl⟩
theorem eX0_yards_23 : Db cX0_yards 23 (fun o => .goto o) 41 26 := ⟨18, by decide +kernel, by decide, rfl⟩
theorem eX0_yards_26 : Dc cX0_yards 26 (.aload_n 0) 1 27 := ⟨by decide +kernel, rfl⟩
theorem eX0_yards_27 : Dc cX0_yards 27 (.getfield 21) 3 30 := ⟨by decide +kernel, rfl⟩
theorem eX0_yards_30 : Dc cX0_yards 30 (.iload_n 2) 1 31 := ⟨by decide +kernel, rfl⟩
theorem eX0_yards_31 : Dc cX0_yards 31 (.iaload) 1 32 := ⟨by decide +kernel, rfl⟩
theorem eX0_yards_32 : Dc cX0_yards 32 (.iconst 2) 1 33 := ⟨by decide +kernel, rfl⟩
theorem eX0_yards_33 : Db cX0_yards 33 (fun o => .if_icmp .ne o) 40 36 := ⟨7, by decide +kernel, by decide, rfl⟩
theorem eX0_yards_36 : Dc cX0_yards 36 (.iconst 5) 1 37 := ⟨by decide +kernel, rfl⟩
theorem eX0_yards_37 : Db cX0_yards 37 (fun o => .goto o) 41 40 := ⟨4, by decide +kernel, by decide, rfl⟩
theorem eX0_yards_40 : Dc cX0_yards 40 (.iconst 0) 1 41 := ⟨by decide +kernel, rfl⟩
theorem eX0_yards_41 : Dc cX0_yards 41 (.iadd) 1 42 := ⟨by decide +kernel, rfl⟩
theorem eX0_yards_42 : Dc cX0_yards 42 (.ireturn) 1 43 := ⟨by decide +kernel, rfl⟩
theorem eX0_rise_0 : Dc cX0_rise 0 (.aload_n 0) 1 1 := ⟨by decide +kernel, rfl⟩
theorem eX0_rise_1 : Dc cX0_rise 1 (.getfield 13) 3 4 := ⟨by decide +kernel, rfl⟩
theorem eX0_rise_4 : Dc cX0_rise 4 (.iload_n 1) 1 5 := ⟨by decide +kernel, rfl⟩
theorem eX0_rise_5 : Dc cX0_rise 5 (.iaload) 1 6 := ⟨by decide +kernel, rfl⟩
theorem eX0_rise_6 : Dc cX0_rise 6 (.aload_n 0) 1 7 := ⟨by decide +kernel, rfl⟩
theorem eX0_rise_7 : Dc cX0_rise 7 (.getfield 13) 3 10 := ⟨by decide +kernel, rfl⟩
theorem eX0_rise_10 : Dc cX0_rise 10 (.iload_n 2) 1 11 := ⟨by decide +kernel, rfl⟩
theorem eX0_rise_11 : Dc cX0_rise 11 (.iaload) 1 12 := ⟨by decide +kernel, rfl⟩
theorem eX0_rise_12 : Dc cX0_rise 12 (.isub) 1 13 := ⟨by decide +kernel, rfl⟩
theorem eX0_rise_13 : Dc cX0_rise 13 (.invokestatic 7) 3 16 := ⟨by decide +kernel, rfl⟩
theorem eX0_rise_16 : Dc cX0_rise 16 (.ireturn) 1 17 := ⟨by decide +kernel, rfl⟩
theorem eX0_level_0 : Dc cX0_level 0 (.aload_n 0) 1 1 := ⟨by decide +kernel, rfl⟩
theorem eX0_level_1 : Dc cX0_level 1 (.iload_n 1) 1 2 := ⟨by decide +kernel, rfl⟩
theorem eX0_level_2 : Dc cX0_level 2 (.invokevirtual 269) 3 5 := ⟨by decide +kernel, rfl⟩
theorem eX0_level_5 : Dc cX0_level 5 (.astore_n 3) 1 6 := ⟨by decide +kernel, rfl⟩
theorem eX0_level_6 : Dc cX0_level 6 (.aload_n 3) 1 7 := ⟨by decide +kernel, rfl⟩
theorem eX0_level_7 : Db cX0_level 7 (fun o => .ifnull o) 24 10 := ⟨17, by decide +kernel, by decide, rfl⟩
theorem eX0_level_10 : Dc cX0_level 10 (.iload_n 2) 1 11 := ⟨by decide +kernel, rfl⟩
theorem eX0_level_11 : Dc cX0_level 11 (.iconst 0) 1 12 := ⟨by decide +kernel, rfl⟩
theorem eX0_level_12 : Dc cX0_level 12 (.aload_n 3) 1 13 := ⟨by decide +kernel, rfl⟩
theorem eX0_level_13 : Dc cX0_level 13 (.getfield 228) 3 16 := ⟨by decide +kernel, rfl⟩
theorem eX0_level_16 : Dc cX0_level 16 (.iconst 1) 1 17 := ⟨by decide +kernel, rfl⟩
theorem eX0_level_17 : Dc cX0_level 17 (.isub) 1 18 := ⟨by decide +kernel, rfl⟩
theorem eX0_level_18 : Dc cX0_level 18 (.invokestatic 3) 3 21 := ⟨by decide +kernel, rfl⟩
theorem eX0_level_21 : Db cX0_level 21 (fun o => .ifCond .ne o) 28 24 := ⟨7, by decide +kernel, by decide, rfl⟩
theorem eX0_level_24 : Dc cX0_level 24 (.iconst (-1)) 1 25 := ⟨by decide +kernel, rfl⟩
theorem eX0_level_25 : Db cX0_level 25 (fun o => .goto o) 34 28 := ⟨9, by decide +kernel, by decide, rfl⟩
theorem eX0_level_28 : Dc cX0_level 28 (.aload_n 3) 1 29 := ⟨by decide +kernel, rfl⟩
theorem eX0_level_29 : Dc cX0_level 29 (.getfield 231) 3 32 := ⟨by decide +kernel, rfl⟩
theorem eX0_level_32 : Dc cX0_level 32 (.iload_n 2) 1 33 := ⟨by decide +kernel, rfl⟩
theorem eX0_level_33 : Dc cX0_level 33 (.iaload) 1 34 := ⟨by decide +kernel, rfl⟩
theorem eX0_level_34 : Dc cX0_level 34 (.ireturn) 1 35 := ⟨by decide +kernel, rfl⟩
theorem eX0_close_0 : Dc cX0_close 0 (.aload_n 0) 1 1 := ⟨by decide +kernel, rfl⟩
theorem eX0_close_1 : Dc cX0_close 1 (.iload_n 1) 1 2 := ⟨by decide +kernel, rfl⟩
theorem eX0_close_2 : Dc cX0_close 2 (.invokevirtual 269) 3 5 := ⟨by decide +kernel, rfl⟩
theorem eX0_close_5 : Dc cX0_close 5 (.astore 4) 2 7 := ⟨by decide +kernel, rfl⟩
theorem eX0_close_7 : Dc cX0_close 7 (.aload 4) 2 9 := ⟨by decide +kernel, rfl⟩
theorem eX0_close_9 : Db cX0_close 9 (fun o => .ifnull o) 21 12 := ⟨12, by decide +kernel, by decide, rfl⟩
theorem eX0_close_12 : Dc cX0_close 12 (.iload_n 2) 1 13 := ⟨by decide +kernel, rfl⟩
theorem eX0_close_13 : Dc cX0_close 13 (.iconst 0) 1 14 := ⟨by decide +kernel, rfl⟩
theorem eX0_close_14 : Dc cX0_close 14 (.iconst 1) 1 15 := ⟨by decide +kernel, rfl⟩
theorem eX0_close_15 : Dc cX0_close 15 (.invokestatic 3) 3 18 := ⟨by decide +kernel, rfl⟩
theorem eX0_close_18 : Db cX0_close 18 (fun o => .ifCond .ne o) 23 21 := ⟨5, by decide +kernel, by decide, rfl⟩
theorem eX0_close_21 : Dc cX0_close 21 (.iconst (-1)) 1 22 := ⟨by decide +kernel, rfl⟩
theorem eX0_close_22 : Dc cX0_close 22 (.ireturn) 1 23 := ⟨by decide +kernel, rfl⟩
theorem eX0_close_23 : Dc cX0_close 23 (.iload_n 3) 1 24 := ⟨by decide +kernel, rfl⟩
theorem eX0_close_24 : Dc cX0_close 24 (.invokestatic 74) 3 27 := ⟨by decide +kernel, rfl⟩
theorem eX0_close_27 : Db cX0_close 27 (fun o => .ifCond .ne o) 33 30 := ⟨6, by decide +kernel, by decide, rfl⟩
theorem eX0_close_30 : Dc cX0_close 30 (.bipush (-2)) 2 32 := ⟨by decide +kernel, rfl⟩
theorem eX0_close_32 : Dc cX0_close 32 (.ireturn) 1 33 := ⟨by decide +kernel, rfl⟩
theorem eX0_close_33 : Dc cX0_close 33 (.iload_n 2) 1 34 := ⟨by decide +kernel, rfl⟩
theorem eX0_close_34 : Db cX0_close 34 (fun o => .ifCond .ne o) 47 37 := ⟨13, by decide +kernel, by decide, rfl⟩
theorem eX0_close_37 : Dc cX0_close 37 (.aload_n 0) 1 38 := ⟨by decide +kernel, rfl⟩
theorem eX0_close_38 : Dc cX0_close 38 (.aload 4) 2 40 := ⟨by decide +kernel, rfl⟩
theorem eX0_close_40 : Dc cX0_close 40 (.iload_n 3) 1 41 := ⟨by decide +kernel, rfl⟩
theorem eX0_close_41 : Dc cX0_close 41 (.invokevirtual 277) 3 44 := ⟨by decide +kernel, rfl⟩
theorem eX0_close_44 : Db cX0_close 44 (fun o => .goto o) 54 47 := ⟨10, by decide +kernel, by decide, rfl⟩
theorem eX0_close_47 : Dc cX0_close 47 (.aload_n 0) 1 48 := ⟨by decide +kernel, rfl⟩
theorem eX0_close_48 : Dc cX0_close 48 (.aload 4) 2 50 := ⟨by decide +kernel, rfl⟩
theorem eX0_close_50 : Dc cX0_close 50 (.iload_n 3) 1 51 := ⟨by decide +kernel, rfl⟩
theorem eX0_close_51 : Dc cX0_close 51 (.invokevirtual 281) 3 54 := ⟨by decide +kernel, rfl⟩
theorem eX0_close_54 : Dc cX0_close 54 (.ireturn) 1 55 := ⟨by decide +kernel, rfl⟩
theorem eX0_openAt_0 : Dc cX0_openAt 0 (.aload_n 0) 1 1 := ⟨by decide +kernel, rfl⟩
theorem eX0_openAt_1 : Dc cX0_openAt 1 (.iconst 1) 1 2 := ⟨by decide +kernel, rfl⟩
theorem eX0_openAt_2 : Dc cX0_openAt 2 (.iload_n 2) 1 3 := ⟨by decide +kernel, rfl⟩
theorem eX0_openAt_3 : Dc cX0_openAt 3 (.invokevirtual 118) 3 6 := ⟨by decide +kernel, rfl⟩
theorem eX0_openAt_6 : Dc cX0_openAt 6 (.istore_n 3) 1 7 := ⟨by decide +kernel, rfl⟩
theorem eX0_openAt_7 : Dc cX0_openAt 7 (.iconst 0) 1 8 := ⟨by decide +kernel, rfl⟩
theorem eX0_openAt_8 : Dc cX0_openAt 8 (.istore 4) 2 10 := ⟨by decide +kernel, rfl⟩
theorem eX0_openAt_10 : Dc cX0_openAt 10 (.iload 4) 2 12 := ⟨by decide +kernel, rfl⟩
theorem eX0_openAt_12 : Dc cX0_openAt 12 (.aload_n 1) 1 13 := ⟨by decide +kernel, rfl⟩
theorem eX0_openAt_13 : Dc cX0_openAt 13 (.getfield 228) 3 16 := ⟨by decide +kernel, rfl⟩
theorem eX0_openAt_16 : Db cX0_openAt 16 (fun o => .if_icmp .ge o) 67 19 := ⟨51, by decide +kernel, by decide, rfl⟩
theorem eX0_openAt_19 : Dc cX0_openAt 19 (.aload_n 1) 1 20 := ⟨by decide +kernel, rfl⟩
theorem eX0_openAt_20 : Dc cX0_openAt 20 (.getfield 231) 3 23 := ⟨by decide +kernel, rfl⟩
theorem eX0_openAt_23 : Dc cX0_openAt 23 (.iload 4) 2 25 := ⟨by decide +kernel, rfl⟩
theorem eX0_openAt_25 : Dc cX0_openAt 25 (.iaload) 1 26 := ⟨by decide +kernel, rfl⟩
theorem eX0_openAt_26 : Dc cX0_openAt 26 (.ldc 234) 2 28 := ⟨by decide +kernel, rfl⟩
theorem eX0_openAt_28 : Db cX0_openAt 28 (fun o => .if_icmp .eq o) 58 31 := ⟨30, by decide +kernel, by decide, rfl⟩
theorem eX0_openAt_31 : Dc cX0_openAt 31 (.aload_n 1) 1 32 := ⟨by decide +kernel, rfl⟩
theorem eX0_openAt_32 : Dc cX0_openAt 32 (.getfield 231) 3 35 := ⟨by decide +kernel, rfl⟩
theorem eX0_openAt_35 : Dc cX0_openAt 35 (.iload 4) 2 37 := ⟨by decide +kernel, rfl⟩
theorem eX0_openAt_37 : Dc cX0_openAt 37 (.iaload) 1 38 := ⟨by decide +kernel, rfl⟩
theorem eX0_openAt_38 : Dc cX0_openAt 38 (.aload_n 0) 1 39 := ⟨by decide +kernel, rfl⟩
theorem eX0_openAt_39 : Dc cX0_openAt 39 (.getfield 13) 3 42 := ⟨by decide +kernel, rfl⟩
theorem eX0_openAt_42 : Dc cX0_openAt 42 (.aload_n 1) 1 43 := ⟨by decide +kernel, rfl⟩
theorem eX0_openAt_43 : Dc cX0_openAt 43 (.getfield 203) 3 46 := ⟨by decide +kernel, rfl⟩
theorem eX0_openAt_46 : Dc cX0_openAt 46 (.iload 4) 2 48 := ⟨by decide +kernel, rfl⟩
theorem eX0_openAt_48 : Dc cX0_openAt 48 (.iaload) 1 49 := ⟨by decide +kernel, rfl⟩
theorem eX0_openAt_49 : Dc cX0_openAt 49 (.iaload) 1 50 := ⟨by decide +kernel, rfl⟩
theorem eX0_openAt_50 : Dc cX0_openAt 50 (.isub) 1 51 := ⟨by decide +kernel, rfl⟩
theorem eX0_openAt_51 : Dc cX0_openAt 51 (.invokestatic 7) 3 54 := ⟨by decide +kernel, rfl⟩
theorem eX0_openAt_54 : Dc cX0_openAt 54 (.iload_n 3) 1 55 := ⟨by decide +kernel, rfl⟩
theorem eX0_openAt_55 : Db cX0_openAt 55 (fun o => .if_icmp .le o) 61 58 := ⟨6, by decide +kernel, by decide, rfl⟩
theorem eX0_openAt_58 : Dc cX0_openAt 58 (.iload 4) 2 60 := ⟨by decide +kernel, rfl⟩
theorem eX0_openAt_60 : Dc cX0_openAt 60 (.ireturn) 1 61 := ⟨by decide +kernel, rfl⟩
theorem eX0_openAt_61 : Dc cX0_openAt 61 (.iinc 4 1) 3 64 := ⟨by decide +kernel, rfl⟩
theorem eX0_openAt_64 : Db cX0_openAt 64 (fun o => .goto o) 10 67 := ⟨-54, by decide +kernel, by decide, rfl⟩
theorem eX0_openAt_67 : Dc cX0_openAt 67 (.bipush (-5)) 2 69 := ⟨by decide +kernel, rfl⟩
theorem eX0_openAt_69 : Dc cX0_openAt 69 (.ireturn) 1 70 := ⟨by decide +kernel, rfl⟩
theorem eX0_steepAt_0 : Dc cX0_steepAt 0 (.aload_n 0) 1 1 := ⟨by decide +kernel, rfl⟩
theorem eX0_steepAt_1 : Dc cX0_steepAt 1 (.iconst 0) 1 2 := ⟨by decide +kernel, rfl⟩
theorem eX0_steepAt_2 : Dc cX0_steepAt 2 (.iload_n 2) 1 3 := ⟨by decide +kernel, rfl⟩
theorem eX0_steepAt_3 : Dc cX0_steepAt 3 (.invokevirtual 118) 3 6 := ⟨by decide +kernel, rfl⟩
theorem eX0_steepAt_6 : Dc cX0_steepAt 6 (.istore_n 3) 1 7 := ⟨by decide +kernel, rfl⟩
theorem eX0_steepAt_7 : Dc cX0_steepAt 7 (.iconst 1) 1 8 := ⟨by decide +kernel, rfl⟩
theorem eX0_steepAt_8 : Dc cX0_steepAt 8 (.istore 4) 2 10 := ⟨by decide +kernel, rfl⟩
theorem eX0_steepAt_10 : Dc cX0_steepAt 10 (.iload 4) 2 12 := ⟨by decide +kernel, rfl⟩
theorem eX0_steepAt_12 : Dc cX0_steepAt 12 (.aload_n 1) 1 13 := ⟨by decide +kernel, rfl⟩
theorem eX0_steepAt_13 : Dc cX0_steepAt 13 (.getfield 228) 3 16 := ⟨by decide +kernel, rfl⟩
theorem eX0_steepAt_16 : Db cX0_steepAt 16 (fun o => .if_icmp .ge o) 52 19 := ⟨36, by decide +kernel, by decide, rfl⟩
theorem eX0_steepAt_19 : Dc cX0_steepAt 19 (.aload_n 0) 1 20 := ⟨by decide +kernel, rfl⟩
theorem eX0_steepAt_20 : Dc cX0_steepAt 20 (.aload_n 1) 1 21 := ⟨by decide +kernel, rfl⟩
theorem eX0_steepAt_21 : Dc cX0_steepAt 21 (.getfield 203) 3 24 := ⟨by decide +kernel, rfl⟩
theorem eX0_steepAt_24 : Dc cX0_steepAt 24 (.iload 4) 2 26 := ⟨by decide +kernel, rfl⟩
theorem eX0_steepAt_26 : Dc cX0_steepAt 26 (.iconst 1) 1 27 := ⟨by decide +kernel, rfl⟩
theorem eX0_steepAt_27 : Dc cX0_steepAt 27 (.isub) 1 28 := ⟨by decide +kernel, rfl⟩
theorem eX0_steepAt_28 : Dc cX0_steepAt 28 (.iaload) 1 29 := ⟨by decide +kernel, rfl⟩
theorem eX0_steepAt_29 : Dc cX0_steepAt 29 (.aload_n 1) 1 30 := ⟨by decide +kernel, rfl⟩
theorem eX0_steepAt_30 : Dc cX0_steepAt 30 (.getfield 203) 3 33 := ⟨by decide +kernel, rfl⟩
theorem eX0_steepAt_33 : Dc cX0_steepAt 33 (.iload 4) 2 35 := ⟨by decide +kernel, rfl⟩
theorem eX0_steepAt_35 : Dc cX0_steepAt 35 (.iaload) 1 36 := ⟨by decide +kernel, rfl⟩
theorem eX0_steepAt_36 : Dc cX0_steepAt 36 (.invokevirtual 17) 3 39 := ⟨by decide +kernel, rfl⟩
theorem eX0_steepAt_39 : Dc cX0_steepAt 39 (.iload_n 3) 1 40 := ⟨by decide +kernel, rfl⟩
theorem eX0_steepAt_40 : Db cX0_steepAt 40 (fun o => .if_icmp .le o) 46 43 := ⟨6, by decide +kernel, by decide, rfl⟩
theorem eX0_steepAt_43 : Dc cX0_steepAt 43 (.iload 4) 2 45 := ⟨by decide +kernel, rfl⟩
theorem eX0_steepAt_45 : Dc cX0_steepAt 45 (.ireturn) 1 46 := ⟨by decide +kernel, rfl⟩
theorem eX0_steepAt_46 : Dc cX0_steepAt 46 (.iinc 4 1) 3 49 := ⟨by decide +kernel, rfl⟩
theorem eX0_steepAt_49 : Db cX0_steepAt 49 (fun o => .goto o) 10 52 := ⟨-39, by decide +kernel, by decide, rfl⟩
theorem eX0_steepAt_52 : Dc cX0_steepAt 52 (.bipush (-5)) 2 54 := ⟨by decide +kernel, rfl⟩
theorem eX0_steepAt_54 : Dc cX0_steepAt 54 (.ireturn) 1 55 := ⟨by decide +kernel, rfl⟩
theorem eX0_quarrel_0 : Dc cX0_quarrel 0 (.aload_n 0) 1 1 := ⟨by decide +kernel, rfl⟩
theorem eX0_quarrel_1 : Dc cX0_quarrel 1 (.iload_n 1) 1 2 := ⟨by decide +kernel, rfl⟩
theorem eX0_quarrel_2 : Dc cX0_quarrel 2 (.invokevirtual 269) 3 5 := ⟨by decide +kernel, rfl⟩
theorem eX0_quarrel_5 : Dc cX0_quarrel 5 (.astore_n 3) 1 6 := ⟨by decide +kernel, rfl⟩
theorem eX0_quarrel_6 : Dc cX0_quarrel 6 (.aload_n 0) 1 7 := ⟨by decide +kernel, rfl⟩
theorem eX0_quarrel_7 : Dc cX0_quarrel 7 (.iload_n 2) 1 8 := ⟨by decide +kernel, rfl⟩
theorem eX0_quarrel_8 : Dc cX0_quarrel 8 (.invokevirtual 269) 3 11 := ⟨by decide +kernel, rfl⟩
theorem eX0_quarrel_11 : Dc cX0_quarrel 11 (.astore 4) 2 13 := ⟨by decide +kernel, rfl⟩
theorem eX0_quarrel_13 : Dc cX0_quarrel 13 (.aload_n 3) 1 14 := ⟨by decide +kernel, rfl⟩
theorem eX0_quarrel_14 : Db cX0_quarrel 14 (fun o => .ifnull o) 22 17 := ⟨8, by decide +kernel, by decide, rfl⟩
theorem eX0_quarrel_17 : Dc cX0_quarrel 17 (.aload 4) 2 19 := ⟨by decide +kernel, rfl⟩
theorem eX0_quarrel_19 : Db cX0_quarrel 19 (fun o => .ifnonnull o) 24 22 := ⟨5, by decide +kernel, by decide, rfl⟩
theorem eX0_quarrel_22 : Dc cX0_quarrel 22 (.iconst (-1)) 1 23 := ⟨by decide +kernel, rfl⟩
theorem eX0_quarrel_23 : Dc cX0_quarrel 23 (.ireturn) 1 24 := ⟨by decide +kernel, rfl⟩
theorem eX0_quarrel_24 : Dc cX0_quarrel 24 (.aload_n 3) 1 25 := ⟨by decide +kernel, rfl⟩
theorem eX0_quarrel_25 : Dc cX0_quarrel 25 (.aload 4) 2 27 := ⟨by decide +kernel, rfl⟩
theorem eX0_quarrel_27 : Db cX0_quarrel 27 (fun o => .if_acmp .ne o) 33 30 := ⟨6, by decide +kernel, by decide, rfl⟩
theorem eX0_quarrel_30 : Dc cX0_quarrel 30 (.bipush (-2)) 2 32 := ⟨by decide +kernel, rfl⟩
theorem eX0_quarrel_32 : Dc cX0_quarrel 32 (.ireturn) 1 33 := ⟨by decide +kernel, rfl⟩
theorem eX0_quarrel_33 : Dc cX0_quarrel 33 (.iconst 0) 1 34 := ⟨by decide +kernel, rfl⟩
theorem eX0_quarrel_34 : Dc cX0_quarrel 34 (.istore 5) 2 36 := ⟨by decide +kernel, rfl⟩
theorem eX0_quarrel_36 : Dc cX0_quarrel 36 (.iload 5) 2 38 := ⟨by decide +kernel, rfl⟩
theorem eX0_quarrel_38 : Dc cX0_quarrel 38 (.aload_n 3) 1 39 := ⟨by decide +kernel, rfl⟩
theorem eX0_quarrel_39 : Dc cX0_quarrel 39 (.getfield 228) 3 42 := ⟨by decide +kernel, rfl⟩
theorem eX0_quarrel_42 : Db cX0_quarrel 42 (fun o => .if_icmp .ge o) 139 45 := ⟨97, by decide +kernel, by decide, rfl⟩
theorem eX0_quarrel_45 : Dc cX0_quarrel 45 (.iconst 0) 1 46 := ⟨by decide +kernel, rfl⟩
theorem eX0_quarrel_46 : Dc cX0_quarrel 46 (.istore 6) 2 48 := ⟨by decide +kernel, rfl⟩
theorem eX0_quarrel_48 : Dc cX0_quarrel 48 (.iload 6) 2 50 := ⟨by decide +kernel, rfl⟩
theorem eX0_quarrel_50 : Dc cX0_quarrel 50 (.aload 4) 2 52 := ⟨by decide +kernel, rfl⟩
theorem eX0_quarrel_52 : Dc cX0_quarrel 52 (.getfield 228) 3 55 := ⟨by decide +kernel, rfl⟩
theorem eX0_quarrel_55 : Db cX0_quarrel 55 (fun o => .if_icmp .ge o) 133 58 := ⟨78, by decide +kernel, by decide, rfl⟩
theorem eX0_quarrel_58 : Dc cX0_quarrel 58 (.aload_n 3) 1 59 := ⟨by decide +kernel, rfl⟩
theorem eX0_quarrel_59 : Dc cX0_quarrel 59 (.getfield 203) 3 62 := ⟨by decide +kernel, rfl⟩
theorem eX0_quarrel_62 : Dc cX0_quarrel 62 (.iload 5) 2 64 := ⟨by decide +kernel, rfl⟩
theorem eX0_quarrel_64 : Dc cX0_quarrel 64 (.iaload) 1 65 := ⟨by decide +kernel, rfl⟩
theorem eX0_quarrel_65 : Dc cX0_quarrel 65 (.aload 4) 2 67 := ⟨by decide +kernel, rfl⟩
theorem eX0_quarrel_67 : Dc cX0_quarrel 67 (.getfield 203) 3 70 := ⟨by decide +kernel, rfl⟩
theorem eX0_quarrel_70 : Dc cX0_quarrel 70 (.iload 6) 2 72 := ⟨by decide +kernel, rfl⟩
theorem eX0_quarrel_72 : Dc cX0_quarrel 72 (.iaload) 1 73 := ⟨by decide +kernel, rfl⟩
theorem eX0_quarrel_73 : Db cX0_quarrel 73 (fun o => .if_icmp .ne o) 127 76 := ⟨54, by decide +kernel, by decide, rfl⟩
theorem eX0_quarrel_76 : Dc cX0_quarrel 76 (.aload_n 3) 1 77 := ⟨by decide +kernel, rfl⟩
theorem eX0_quarrel_77 : Dc cX0_quarrel 77 (.getfield 231) 3 80 := ⟨by decide +kernel, rfl⟩
theorem eX0_quarrel_80 : Dc cX0_quarrel 80 (.iload 5) 2 82 := ⟨by decide +kernel, rfl⟩
theorem eX0_quarrel_82 : Dc cX0_quarrel 82 (.iaload) 1 83 := ⟨by decide +kernel, rfl⟩
theorem eX0_quarrel_83 : Dc cX0_quarrel 83 (.ldc 234) 2 85 := ⟨by decide +kernel, rfl⟩
theorem eX0_quarrel_85 : Db cX0_quarrel 85 (fun o => .if_icmp .eq o) 127 88 := ⟨42, by decide +kernel, by decide, rfl⟩
theorem eX0_quarrel_88 : Dc cX0_quarrel 88 (.aload 4) 2 90 := ⟨by decide +kernel, rfl⟩
theorem eX0_quarrel_90 : Dc cX0_quarrel 90 (.getfield 231) 3 93 := ⟨by decide +kernel, rfl⟩
theorem eX0_quarrel_93 : Dc cX0_quarrel 93 (.iload 6) 2 95 := ⟨by decide +kernel, rfl⟩
theorem eX0_quarrel_95 : Dc cX0_quarrel 95 (.iaload) 1 96 := ⟨by decide +kernel, rfl⟩
theorem eX0_quarrel_96 : Dc cX0_quarrel 96 (.ldc 234) 2 98 := ⟨by decide +kernel, rfl⟩
theorem eX0_quarrel_98 : Db cX0_quarrel 98 (fun o => .if_icmp .eq o) 127 101 := ⟨29, by decide +kernel, by decide, rfl⟩
theorem eX0_quarrel_101 : Dc cX0_quarrel 101 (.aload_n 3) 1 102 := ⟨by decide +kernel, rfl⟩
theorem eX0_quarrel_102 : Dc cX0_quarrel 102 (.getfield 231) 3 105 := ⟨by decide +kernel, rfl⟩
theorem eX0_quarrel_105 : Dc cX0_quarrel 105 (.iload 5) 2 107 := ⟨by decide +kernel, rfl⟩
theorem eX0_quarrel_107 : Dc cX0_quarrel 107 (.iaload) 1 108 := ⟨by decide +kernel, rfl⟩
theorem eX0_quarrel_108 : Dc cX0_quarrel 108 (.aload 4) 2 110 := ⟨by decide +kernel, rfl⟩
theorem eX0_quarrel_110 : Dc cX0_quarrel 110 (.getfield 231) 3 113 := ⟨by decide +kernel, rfl⟩
theorem eX0_quarrel_113 : Dc cX0_quarrel 113 (.iload 6) 2 115 := ⟨by decide +kernel, rfl⟩
theorem eX0_quarrel_115 : Dc cX0_quarrel 115 (.iaload) 1 116 := ⟨by decide +kernel, rfl⟩
theorem eX0_quarrel_116 : Db cX0_quarrel 116 (fun o => .if_icmp .eq o) 127 119 := ⟨11, by decide +kernel, by decide, rfl⟩
theorem eX0_quarrel_119 : Dc cX0_quarrel 119 (.aload_n 3) 1 120 := ⟨by decide +kernel, rfl⟩
theorem eX0_quarrel_120 : Dc cX0_quarrel 120 (.getfield 203) 3 123 := ⟨by decide +kernel, rfl⟩
theorem eX0_quarrel_123 : Dc cX0_quarrel 123 (.iload 5) 2 125 := ⟨by decide +kernel, rfl⟩
theorem eX0_quarrel_125 : Dc cX0_quarrel 125 (.iaload) 1 126 := ⟨by decide +kernel, rfl⟩
theorem eX0_quarrel_126 : Dc cX0_quarrel 126 (.ireturn) 1 127 := ⟨by decide +kernel, rfl⟩
theorem eX0_quarrel_127 : Dc cX0_quarrel 127 (.iinc 6 1) 3 130 := ⟨by decide +kernel, rfl⟩
theorem eX0_quarrel_130 : Db cX0_quarrel 130 (fun o => .goto o) 48 133 := ⟨-82, by decide +kernel, by decide, rfl⟩
theorem eX0_quarrel_133 : Dc cX0_quarrel 133 (.iinc 5 1) 3 136 := ⟨by decide +kernel, rfl⟩
theorem eX0_quarrel_136 : Db cX0_quarrel 136 (fun o => .goto o) 36 139 := ⟨-100, by decide +kernel, by decide, rfl⟩
theorem eX0_quarrel_139 : Dc cX0_quarrel 139 (.bipush (-5)) 2 141 := ⟨by decide +kernel, rfl⟩
theorem eX0_quarrel_141 : Dc cX0_quarrel 141 (.ireturn) 1 142 := ⟨by decide +kernel, rfl⟩
theorem eX0_slope_0 : Dc cX0_slope 0 (.aload_n 0) 1 1 := ⟨by decide +kernel, rfl⟩
theorem eX0_slope_1 : Dc cX0_slope 1 (.iload_n 1) 1 2 := ⟨by decide +kernel, rfl⟩
theorem eX0_slope_2 : Dc cX0_slope 2 (.invokevirtual 183) 3 5 := ⟨by decide +kernel, rfl⟩
theorem eX0_slope_5 : Db cX0_slope 5 (fun o => .ifnull o) 32 8 := ⟨27, by decide +kernel, by decide, rfl⟩
theorem eX0_slope_8 : Dc cX0_slope 8 (.aload_n 0) 1 9 := ⟨by decide +kernel, rfl⟩
theorem eX0_slope_9 : Dc cX0_slope 9 (.iload_n 2) 1 10 := ⟨by decide +kernel, rfl⟩
theorem eX0_slope_10 : Dc cX0_slope 10 (.invokevirtual 183) 3 13 := ⟨by decide +kernel, rfl⟩
theorem eX0_slope_13 : Db cX0_slope 13 (fun o => .ifnull o) 32 16 := ⟨19, by decide +kernel, by decide, rfl⟩
theorem eX0_slope_16 : Dc cX0_slope 16 (.iload 4) 2 18 := ⟨by decide +kernel, rfl⟩
theorem eX0_slope_18 : Db cX0_slope 18 (fun o => .ifCond .lt o) 32 21 := ⟨14, by decide +kernel, by decide, rfl⟩
theorem eX0_slope_21 : Dc cX0_slope 21 (.iload 4) 2 23 := ⟨by decide +kernel, rfl⟩
theorem eX0_slope_23 : Dc cX0_slope 23 (.iconst 2) 1 24 := ⟨by decide +kernel, rfl⟩
theorem eX0_slope_24 : Dc cX0_slope 24 (.bipush 9) 2 26 := ⟨by decide +kernel, rfl⟩
theorem eX0_slope_26 : Dc cX0_slope 26 (.invokestatic 3) 3 29 := ⟨by decide +kernel, rfl⟩
theorem eX0_slope_29 : Db cX0_slope 29 (fun o => .ifCond .eq o) 34 32 := ⟨5, by decide +kernel, by decide, rfl⟩
theorem eX0_slope_32 : Dc cX0_slope 32 (.iconst (-1)) 1 33 := ⟨by decide +kernel, rfl⟩
theorem eX0_slope_33 : Dc cX0_slope 33 (.ireturn) 1 34 := ⟨by decide +kernel, rfl⟩
theorem eX0_slope_34 : Dc cX0_slope 34 (.iload_n 1) 1 35 := ⟨by decide +kernel, rfl⟩
theorem eX0_slope_35 : Dc cX0_slope 35 (.iload_n 2) 1 36 := ⟨by decide +kernel, rfl⟩
theorem eX0_slope_36 : Db cX0_slope 36 (fun o => .if_icmp .eq o) 46 39 := ⟨10, by decide +kernel, by decide, rfl⟩
theorem eX0_slope_39 : Dc cX0_slope 39 (.iload_n 3) 1 40 := ⟨by decide +kernel, rfl⟩
theorem eX0_slope_40 : Dc cX0_slope 40 (.invokestatic 74) 3 43 := ⟨by decide +kernel, rfl⟩
theorem eX0_slope_43 : Db cX0_slope 43 (fun o => .ifCond .ne o) 49 46 := ⟨6, by decide +kernel, by decide, rfl⟩
theorem eX0_slope_46 : Dc cX0_slope 46 (.bipush (-2)) 2 48 := ⟨by decide +kernel, rfl⟩
theorem eX0_slope_48 : Dc cX0_slope 48 (.ireturn) 1 49 := ⟨by decide +kernel, rfl⟩
theorem eX0_slope_49 : Dc cX0_slope 49 (.aload_n 0) 1 50 := ⟨by decide +kernel, rfl⟩
theorem eX0_slope_50 : Dc cX0_slope 50 (.aload_n 0) 1 51 := ⟨by decide +kernel, rfl⟩
theorem eX0_slope_51 : Dc cX0_slope 51 (.getfield 28) 3 54 := ⟨by decide +kernel, rfl⟩
theorem eX0_slope_54 : Dc cX0_slope 54 (.iload_n 1) 1 55 := ⟨by decide +kernel, rfl⟩
theorem eX0_slope_55 : Dc cX0_slope 55 (.invokevirtual 38) 3 58 := ⟨by decide +kernel, rfl⟩
theorem eX0_slope_58 : Dc cX0_slope 58 (.checkcast 42) 3 61 := ⟨by decide +kernel, rfl⟩
theorem eX0_slope_61 : Dc cX0_slope 61 (.aload_n 0) 1 62 := ⟨by decide +kernel, rfl⟩
theorem eX0_slope_62 : Dc cX0_slope 62 (.getfield 28) 3 65 := ⟨by decide +kernel, rfl⟩
theorem eX0_slope_65 : Dc cX0_slope 65 (.iload_n 2) 1 66 := ⟨by decide +kernel, rfl⟩
theorem eX0_slope_66 : Dc cX0_slope 66 (.invokevirtual 38) 3 69 := ⟨by decide +kernel, rfl⟩
theorem eX0_slope_69 : Dc cX0_slope 69 (.checkcast 42) 3 72 := ⟨by decide +kernel, rfl⟩
theorem eX0_slope_72 : Dc cX0_slope 72 (.iload_n 3) 1 73 := ⟨by decide +kernel, rfl⟩
theorem eX0_slope_73 : Dc cX0_slope 73 (.invokevirtual 291) 3 76 := ⟨by decide +kernel, rfl⟩
theorem eX0_slope_76 : Db cX0_slope 76 (fun o => .ifCond .ne o) 82 79 := ⟨6, by decide +kernel, by decide, rfl⟩
theorem eX0_slope_79 : Dc cX0_slope 79 (.bipush (-5)) 2 81 := ⟨by decide +kernel, rfl⟩
theorem eX0_slope_81 : Dc cX0_slope 81 (.ireturn) 1 82 := ⟨by decide +kernel, rfl⟩
theorem eX0_slope_82 : Dc cX0_slope 82 (.iload 4) 2 84 := ⟨by decide +kernel, rfl⟩
theorem eX0_slope_84 : Db cX0_slope 84 (fun o => .ifCond .ne o) 109 87 := ⟨25, by decide +kernel, by decide, rfl⟩
theorem eX0_slope_87 : Dc cX0_slope 87 (.aload_n 0) 1 88 := ⟨by decide +kernel, rfl⟩
theorem eX0_slope_88 : Dc cX0_slope 88 (.getfield 148) 3 91 := ⟨by decide +kernel, rfl⟩
theorem eX0_slope_91 : Dc cX0_slope 91 (.aload_n 0) 1 92 := ⟨by decide +kernel, rfl⟩
theorem eX0_slope_92 : Dc cX0_slope 92 (.getfield 28) 3 95 := ⟨by decide +kernel, rfl⟩
theorem eX0_slope_95 : Dc cX0_slope 95 (.iload_n 1) 1 96 := ⟨by decide +kernel, rfl⟩
theorem eX0_slope_96 : Dc cX0_slope 96 (.invokevirtual 38) 3 99 := ⟨by decide +kernel, rfl⟩
theorem eX0_slope_99 : Dc cX0_slope 99 (.checkcast 42) 3 102 := ⟨by decide +kernel, rfl⟩
theorem eX0_slope_102 : Dc cX0_slope 102 (.getfield 44) 3 105 := ⟨by decide +kernel, rfl⟩
theorem eX0_slope_105 : Dc cX0_slope 105 (.iaload) 1 106 := ⟨by decide +kernel, rfl⟩
theorem eX0_slope_106 : Db cX0_slope 106 (fun o => .goto o) 148 109 := ⟨42, by decide +kernel, by decide, rfl⟩
theorem eX0_slope_109 : Dc cX0_slope 109 (.iload 4) 2 111 := ⟨by decide +kernel, rfl⟩
theorem eX0_slope_111 : Dc cX0_slope 111 (.iconst 1) 1 112 := ⟨by decide +kernel, rfl⟩
theorem eX0_slope_112 : Db cX0_slope 112 (fun o => .if_icmp .ne o) 122 115 := ⟨10, by decide +kernel, by decide, rfl⟩
theorem eX0_slope_115 : Dc cX0_slope 115 (.aload_n 0) 1 116 := ⟨by decide +kernel, rfl⟩
theorem eX0_slope_116 : Dc cX0_slope 116 (.getfield 288) 3 119 := ⟨by decide +kernel, rfl⟩
theorem eX0_slope_119 : Db cX0_slope 119 (fun o => .goto o) 148 122 := ⟨29, by decide +kernel, by decide, rfl⟩
theorem eX0_slope_122 : Dc cX0_slope 122 (.iload 4) 2 124 := ⟨by decide +kernel, rfl⟩
theorem eX0_slope_124 : Dc cX0_slope 124 (.bipush 10) 2 126 := ⟨by decide +kernel, rfl⟩
theorem eX0_slope_126 : Dc cX0_slope 126 (.isub) 1 127 := ⟨by decide +kernel, rfl⟩
theorem eX0_slope_127 : Dc cX0_slope 127 (.aload_n 0) 1 128 := ⟨by decide +kernel, rfl⟩
theorem eX0_slope_128 : Dc cX0_slope 128 (.getfield 288) 3 131 := ⟨by decide +kernel, rfl⟩
theorem eX0_slope_131 : Db cX0_slope 131 (fun o => .if_icmp .ge o) 147 134 := ⟨16, by decide +kernel, by decide, rfl⟩
theorem eX0_slope_134 : Dc cX0_slope 134 (.aload_n 0) 1 135 := ⟨by decide +kernel, rfl⟩
theorem eX0_slope_135 : Dc cX0_slope 135 (.getfield 151) 3 138 := ⟨by decide +kernel, rfl⟩
theorem eX0_slope_138 : Dc cX0_slope 138 (.iload 4) 2 140 := ⟨by decide +kernel, rfl⟩
theorem eX0_slope_140 : Dc cX0_slope 140 (.bipush 10) 2 142 := ⟨by decide +kernel, rfl⟩
theorem eX0_slope_142 : Dc cX0_slope 142 (.isub) 1 143 := ⟨by decide +kernel, rfl⟩
theorem eX0_slope_143 : Dc cX0_slope 143 (.iaload) 1 144 := ⟨by decide +kernel, rfl⟩
theorem eX0_slope_144 : Db cX0_slope 144 (fun o => .goto o) 148 147 := ⟨4, by decide +kernel, by decide, rfl⟩
theorem eX0_slope_147 : Dc cX0_slope 147 (.iconst (-1)) 1 148 := ⟨by decide +kernel, rfl⟩
theorem eX0_slope_148 : Dc cX0_slope 148 (.ireturn) 1 149 := ⟨by decide +kernel, rfl⟩
theorem eX0_findWay_0 : Dc cX0_findWay 0 (.aload_n 0) 1 1 := ⟨by decide +kernel, rfl⟩
theorem eX0_findWay_1 : Dc cX0_findWay 1 (.iconst 0) 1 2 := ⟨by decide +kernel, rfl⟩
theorem eX0_findWay_2 : Dc cX0_findWay 2 (.iload_n 3) 1 3 := ⟨by decide +kernel, rfl⟩
theorem eX0_findWay_3 : Dc cX0_findWay 3 (.invokevirtual 118) 3 6 := ⟨by decide +kernel, rfl⟩
theorem eX0_findWay_6 : Dc cX0_findWay 6 (.istore 4) 2 8 := ⟨by decide +kernel, rfl⟩
theorem eX0_findWay_8 : Dc cX0_findWay 8 (.aload_n 0) 1 9 := ⟨by decide +kernel, rfl⟩
theorem eX0_findWay_9 : Dc cX0_findWay 9 (.iconst 5) 1 10 := ⟨by decide +kernel, rfl⟩
theorem eX0_findWay_10 : Dc cX0_findWay 10 (.iload_n 3) 1 11 := ⟨by decide +kernel, rfl⟩
theorem eX0_findWay_11 : Dc cX0_findWay 11 (.invokevirtual 118) 3 14 := ⟨by decide +kernel, rfl⟩
theorem eX0_findWay_14 : Dc cX0_findWay 14 (.iconst 1) 1 15 := ⟨by decide +kernel, rfl⟩
theorem eX0_findWay_15 : Db cX0_findWay 15 (fun o => .if_icmp .ne o) 22 18 := ⟨7, by decide +kernel, by decide, rfl⟩
theorem eX0_findWay_18 : Dc cX0_findWay 18 (.iconst 1) 1 19 := ⟨by decide +kernel, rfl⟩
theorem eX0_findWay_19 : Db cX0_findWay 19 (fun o => .goto o) 23 22 := ⟨4, by decide +kernel, by decide, rfl⟩
theorem eX0_findWay_22 : Dc cX0_findWay 22 (.iconst 0) 1 23 := ⟨by decide +kernel, rfl⟩
theorem eX0_findWay_23 : Dc cX0_findWay 23 (.istore 5) 2 25 := ⟨by decide +kernel, rfl⟩
theorem eX0_findWay_25 : Dc cX0_findWay 25 (.iconst 0) 1 26 := ⟨by decide +kernel, rfl⟩
theorem eX0_findWay_26 : Dc cX0_findWay 26 (.istore 6) 2 28 := ⟨by decide +kernel, rfl⟩
theorem eX0_findWay_28 : Dc cX0_findWay 28 (.iload 6) 2 30 := ⟨by decide +kernel, rfl⟩
theorem eX0_findWay_30 : Dc cX0_findWay 30 (.bipush 80) 2 32 := ⟨by decide +kernel, rfl⟩
theorem eX0_findWay_32 : Db cX0_findWay 32 (fun o => .if_icmp .ge o) 63 35 := ⟨31, by decide +kernel, by decide, rfl⟩
theorem eX0_findWay_35 : Dc cX0_findWay 35 (.aload_n 0) 1 36 := ⟨by decide +kernel, rfl⟩
theorem eX0_findWay_36 : Dc cX0_findWay 36 (.getfield 148) 3 39 := ⟨by decide +kernel, rfl⟩
theorem eX0_findWay_39 : Dc cX0_findWay 39 (.iload 6) 2 41 := ⟨by decide +kernel, rfl⟩
theorem eX0_findWay_41 : Dc cX0_findWay 41 (.iload 6) 2 43 := ⟨by decide +kernel, rfl⟩
theorem eX0_findWay_43 : Dc cX0_findWay 43 (.aload_n 2) 1 44 := ⟨by decide +kernel, rfl⟩
theorem eX0_findWay_44 : Dc cX0_findWay 44 (.getfield 44) 3 47 := ⟨by decide +kernel, rfl⟩
theorem eX0_findWay_47 : Db cX0_findWay 47 (fun o => .if_icmp .ne o) 54 50 := ⟨7, by decide +kernel, by decide, rfl⟩
theorem eX0_findWay_50 : Dc cX0_findWay 50 (.iconst 0) 1 51 := ⟨by decide +kernel, rfl⟩
theorem eX0_findWay_51 : Db cX0_findWay 51 (fun o => .goto o) 56 54 := ⟨5, by decide +kernel, by decide, rfl⟩
theorem eX0_findWay_54 : Dc cX0_findWay 54 (.ldc 237) 2 56 := ⟨by decide +kernel, rfl⟩
theorem eX0_findWay_56 : Dc cX0_findWay 56 (.iastore) 1 57 := ⟨by decide +kernel, rfl⟩
theorem eX0_findWay_57 : Dc cX0_findWay 57 (.iinc 6 1) 3 60 := ⟨by decide +kernel, rfl⟩
theorem eX0_findWay_60 : Db cX0_findWay 60 (fun o => .goto o) 28 63 := ⟨-32, by decide +kernel, by decide, rfl⟩
theorem eX0_findWay_63 : Dc cX0_findWay 63 (.iconst 1) 1 64 := ⟨by decide +kernel, rfl⟩
theorem eX0_findWay_64 : Dc cX0_findWay 64 (.istore 6) 2 66 := ⟨by decide +kernel, rfl⟩
theorem eX0_findWay_66 : Dc cX0_findWay 66 (.iload 6) 2 68 := ⟨by decide +kernel, rfl⟩
theorem eX0_findWay_68 : Db cX0_findWay 68 (fun o => .ifCond .eq o) 212 71 := ⟨144, by decide +kernel, by decide, rfl⟩
theorem eX0_findWay_71 : Dc cX0_findWay 71 (.iconst 0) 1 72 := ⟨by decide +kernel, rfl⟩
theorem eX0_findWay_72 : Dc cX0_findWay 72 (.istore 6) 2 74 := ⟨by decide +kernel, rfl⟩
theorem eX0_findWay_74 : Dc cX0_findWay 74 (.iconst 0) 1 75 := ⟨by decide +kernel, rfl⟩
theorem eX0_findWay_75 : Dc cX0_findWay 75 (.istore 7) 2 77 := ⟨by decide +kernel, rfl⟩
theorem eX0_findWay_77 : Dc cX0_findWay 77 (.iload 7) 2 79 := ⟨by decide +kernel, rfl⟩
theorem eX0_findWay_79 : Dc cX0_findWay 79 (.bipush 80) 2 81 := ⟨by decide +kernel, rfl⟩
theorem eX0_findWay_81 : Db cX0_findWay 81 (fun o => .if_icmp .ge o) 209 84 := ⟨128, by decide +kernel, by decide, rfl⟩
theorem eX0_findWay_84 : Dc cX0_findWay 84 (.iconst 0) 1 85 := ⟨by decide +kernel, rfl⟩
theorem eX0_findWay_85 : Dc cX0_findWay 85 (.istore 8) 2 87 := ⟨by decide +kernel, rfl⟩
theorem eX0_findWay_87 : Dc cX0_findWay 87 (.iload 8) 2 89 := ⟨by decide +kernel, rfl⟩
theorem eX0_findWay_89 : Dc cX0_findWay 89 (.bipush 80) 2 91 := ⟨by decide +kernel, rfl⟩
theorem eX0_findWay_91 : Db cX0_findWay 91 (fun o => .if_icmp .ge o) 203 94 := ⟨112, by decide +kernel, by decide, rfl⟩
theorem eX0_findWay_94 : Dc cX0_findWay 94 (.aload_n 0) 1 95 := ⟨by decide +kernel, rfl⟩
theorem eX0_findWay_95 : Dc cX0_findWay 95 (.getfield 148) 3 98 := ⟨by decide +kernel, rfl⟩
theorem eX0_findWay_98 : Dc cX0_findWay 98 (.iload 8) 2 100 := ⟨by decide +kernel, rfl⟩
theorem eX0_findWay_100 : Dc cX0_findWay 100 (.iaload) 1 101 := ⟨by decide +kernel, rfl⟩
theorem eX0_findWay_101 : Dc cX0_findWay 101 (.ldc 237) 2 103 := ⟨by decide +kernel, rfl⟩
theorem eX0_findWay_103 : Db cX0_findWay 103 (fun o => .if_icmp .eq o) 197 106 := ⟨94, by decide +kernel, by decide, rfl⟩
theorem eX0_findWay_106 : Dc cX0_findWay 106 (.iload 7) 2 108 := ⟨by decide +kernel, rfl⟩
theorem eX0_findWay_108 : Dc cX0_findWay 108 (.iload 8) 2 110 := ⟨by decide +kernel, rfl⟩
theorem eX0_findWay_110 : Dc cX0_findWay 110 (.invokestatic 224) 3 113 := ⟨by decide +kernel, rfl⟩
theorem eX0_findWay_113 : Db cX0_findWay 113 (fun o => .ifCond .eq o) 197 116 := ⟨84, by decide +kernel, by decide, rfl⟩
theorem eX0_findWay_116 : Dc cX0_findWay 116 (.aload_n 0) 1 117 := ⟨by decide +kernel, rfl⟩
theorem eX0_findWay_117 : Dc cX0_findWay 117 (.iload 7) 2 119 := ⟨by decide +kernel, rfl⟩
theorem eX0_findWay_119 : Dc cX0_findWay 119 (.iload 8) 2 121 := ⟨by decide +kernel, rfl⟩
theorem eX0_findWay_121 : Dc cX0_findWay 121 (.invokevirtual 17) 3 124 := ⟨by decide +kernel, rfl⟩
theorem eX0_findWay_124 : Dc cX0_findWay 124 (.iload 4) 2 126 := ⟨by decide +kernel, rfl⟩
theorem eX0_findWay_126 : Db cX0_findWay 126 (fun o => .if_icmp .gt o) 197 129 := ⟨71, by decide +kernel, by decide, rfl⟩
theorem eX0_findWay_129 : Dc cX0_findWay 129 (.aload_n 0) 1 130 := ⟨by decide +kernel, rfl⟩
theorem eX0_findWay_130 : Dc cX0_findWay 130 (.iload 7) 2 132 := ⟨by decide +kernel, rfl⟩
theorem eX0_findWay_132 : Dc cX0_findWay 132 (.aload_n 1) 1 133 := ⟨by decide +kernel, rfl⟩
theorem eX0_findWay_133 : Dc cX0_findWay 133 (.aload_n 2) 1 134 := ⟨by decide +kernel, rfl⟩
theorem eX0_findWay_134 : Dc cX0_findWay 134 (.iload 5) 2 136 := ⟨by decide +kernel, rfl⟩
theorem eX0_findWay_136 : Dc cX0_findWay 136 (.invokevirtual 284) 3 139 := ⟨by decide +kernel, rfl⟩
theorem eX0_findWay_139 : Db cX0_findWay 139 (fun o => .ifCond .eq o) 197 142 := ⟨58, by decide +kernel, by decide, rfl⟩
theorem eX0_findWay_142 : Dc cX0_findWay 142 (.aload_n 0) 1 143 := ⟨by decide +kernel, rfl⟩
theorem eX0_findWay_143 : Dc cX0_findWay 143 (.getfield 148) 3 146 := ⟨by decide +kernel, rfl⟩
theorem eX0_findWay_146 : Dc cX0_findWay 146 (.iload 8) 2 148 := ⟨by decide +kernel, rfl⟩
theorem eX0_findWay_148 : Dc cX0_findWay 148 (.iaload) 1 149 := ⟨by decide +kernel, rfl⟩
theorem eX0_findWay_149 : Dc cX0_findWay 149 (.aload_n 0) 1 150 := ⟨by decide +kernel, rfl⟩
theorem eX0_findWay_150 : Dc cX0_findWay 150 (.iload 7) 2 152 := ⟨by decide +kernel, rfl⟩
theorem eX0_findWay_152 : Dc cX0_findWay 152 (.iload 8) 2 154 := ⟨by decide +kernel, rfl⟩
theorem eX0_findWay_154 : Dc cX0_findWay 154 (.invokevirtual 266) 3 157 := ⟨by decide +kernel, rfl⟩
theorem eX0_findWay_157 : Dc cX0_findWay 157 (.iadd) 1 158 := ⟨by decide +kernel, rfl⟩
theorem eX0_findWay_158 : Dc cX0_findWay 158 (.aload_n 0) 1 159 := ⟨by decide +kernel, rfl⟩
theorem eX0_findWay_159 : Dc cX0_findWay 159 (.getfield 148) 3 162 := ⟨by decide +kernel, rfl⟩
theorem eX0_findWay_162 : Dc cX0_findWay 162 (.iload 7) 2 164 := ⟨by decide +kernel, rfl⟩
theorem eX0_findWay_164 : Dc cX0_findWay 164 (.iaload) 1 165 := ⟨by decide +kernel, rfl⟩
theorem eX0_findWay_165 : Db cX0_findWay 165 (fun o => .if_icmp .lt o) 171 168 := ⟨6, by decide +kernel, by decide, rfl⟩
theorem eX0_findWay_168 : Db cX0_findWay 168 (fun o => .goto o) 197 171 := ⟨29, by decide +kernel, by decide, rfl⟩
theorem eX0_findWay_171 : Dc cX0_findWay 171 (.aload_n 0) 1 172 := ⟨by decide +kernel, rfl⟩
theorem eX0_findWay_172 : Dc cX0_findWay 172 (.getfield 148) 3 175 := ⟨by decide +kernel, rfl⟩
theorem eX0_findWay_175 : Dc cX0_findWay 175 (.iload 7) 2 177 := ⟨by decide +kernel, rfl⟩
theorem eX0_findWay_177 : Dc cX0_findWay 177 (.aload_n 0) 1 178 := ⟨by decide +kernel, rfl⟩
theorem eX0_findWay_178 : Dc cX0_findWay 178 (.getfield 148) 3 181 := ⟨by decide +kernel, rfl⟩
theorem eX0_findWay_181 : Dc cX0_findWay 181 (.iload 8) 2 183 := ⟨by decide +kernel, rfl⟩
theorem eX0_findWay_183 : Dc cX0_findWay 183 (.iaload) 1 184 := ⟨by decide +kernel, rfl⟩
theorem eX0_findWay_184 : Dc cX0_findWay 184 (.aload_n 0) 1 185 := ⟨by decide +kernel, rfl⟩
theorem eX0_findWay_185 : Dc cX0_findWay 185 (.iload 7) 2 187 := ⟨by decide +kernel, rfl⟩
theorem eX0_findWay_187 : Dc cX0_findWay 187 (.iload 8) 2 189 := ⟨by decide +kernel, rfl⟩
theorem eX0_findWay_189 : Dc cX0_findWay 189 (.invokevirtual 266) 3 192 := ⟨by decide +kernel, rfl⟩
theorem eX0_findWay_192 : Dc cX0_findWay 192 (.iadd) 1 193 := ⟨by decide +kernel, rfl⟩
theorem eX0_findWay_193 : Dc cX0_findWay 193 (.iastore) 1 194 := ⟨by decide +kernel, rfl⟩
theorem eX0_findWay_194 : Dc cX0_findWay 194 (.iconst 1) 1 195 := ⟨by decide +kernel, rfl⟩
theorem eX0_findWay_195 : Dc cX0_findWay 195 (.istore 6) 2 197 := ⟨by decide +kernel, rfl⟩
theorem eX0_findWay_197 : Dc cX0_findWay 197 (.iinc 8 1) 3 200 := ⟨by decide +kernel, rfl⟩
theorem eX0_findWay_200 : Db cX0_findWay 200 (fun o => .goto o) 87 203 := ⟨-113, by decide +kernel, by decide, rfl⟩
theorem eX0_findWay_203 : Dc cX0_findWay 203 (.iinc 7 1) 3 206 := ⟨by decide +kernel, rfl⟩
theorem eX0_findWay_206 : Db cX0_findWay 206 (fun o => .goto o) 77 209 := ⟨-129, by decide +kernel, by decide, rfl⟩
theorem eX0_findWay_209 : Db cX0_findWay 209 (fun o => .goto o) 66 212 := ⟨-143, by decide +kernel, by decide, rfl⟩
theorem eX0_findWay_212 : Dc cX0_findWay 212 (.aload_n 0) 1 213 := ⟨by decide +kernel, rfl⟩
theorem eX0_findWay_213 : Dc cX0_findWay 213 (.iconst 0) 1 214 := ⟨by decide +kernel, rfl⟩
theorem eX0_findWay_214 : Dc cX0_findWay 214 (.putfield 288) 3 217 := ⟨by decide +kernel, rfl⟩
theorem eX0_findWay_217 : Dc cX0_findWay 217 (.aload_n 0) 1 218 := ⟨by decide +kernel, rfl⟩
theorem eX0_findWay_218 : Dc cX0_findWay 218 (.getfield 148) 3 221 := ⟨by decide +kernel, rfl⟩
theorem eX0_findWay_221 : Dc cX0_findWay 221 (.aload_n 1) 1 222 := ⟨by decide +kernel, rfl⟩
theorem eX0_findWay_222 : Dc cX0_findWay 222 (.getfield 44) 3 225 := ⟨by decide +kernel, rfl⟩
theorem eX0_findWay_225 : Dc cX0_findWay 225 (.iaload) 1 226 := ⟨by decide +kernel, rfl⟩
theorem eX0_findWay_226 : Dc cX0_findWay 226 (.ldc 237) 2 228 := ⟨by decide +kernel, rfl⟩
theorem eX0_findWay_228 : Db cX0_findWay 228 (fun o => .if_icmp .ne o) 233 231 := ⟨5, by decide +kernel, by decide, rfl⟩
theorem eX0_findWay_231 : Dc cX0_findWay 231 (.iconst 0) 1 232 := ⟨by decide +kernel, rfl⟩
theorem eX0_findWay_232 : Dc cX0_findWay 232 (.ireturn) 1 233 := ⟨by decide +kernel, rfl⟩
theorem eX0_findWay_233 : Dc cX0_findWay 233 (.aload_n 0) 1 234 := ⟨by decide +kernel, rfl⟩
theorem eX0_findWay_234 : Dc cX0_findWay 234 (.getfield 151) 3 237 := ⟨by decide +kernel, rfl⟩
theorem eX0_findWay_237 : Dc cX0_findWay 237 (.aload_n 0) 1 238 := ⟨by decide +kernel, rfl⟩
theorem eX0_findWay_238 : Dc cX0_findWay 238 (.dup) 1 239 := ⟨by decide +kernel, rfl⟩
theorem eX0_findWay_239 : Dc cX0_findWay 239 (.getfield 288) 3 242 := ⟨by decide +kernel, rfl⟩
theorem eX0_findWay_242 : Dc cX0_findWay 242 (.dup_x1) 1 243 := ⟨by decide +kernel, rfl⟩
theorem eX0_findWay_243 : Dc cX0_findWay 243 (.iconst 1) 1 244 := ⟨by decide +kernel, rfl⟩
theorem eX0_findWay_244 : Dc cX0_findWay 244 (.iadd) 1 245 := ⟨by decide +kernel, rfl⟩
theorem eX0_findWay_245 : Dc cX0_findWay 245 (.putfield 288) 3 248 := ⟨by decide +kernel, rfl⟩
theorem eX0_findWay_248 : Dc cX0_findWay 248 (.aload_n 1) 1 249 := ⟨by decide +kernel, rfl⟩
theorem eX0_findWay_249 : Dc cX0_findWay 249 (.getfield 44) 3 252 := ⟨by decide +kernel, rfl⟩
theorem eX0_findWay_252 : Dc cX0_findWay 252 (.iastore) 1 253 := ⟨by decide +kernel, rfl⟩
theorem eX0_findWay_253 : Dc cX0_findWay 253 (.aload_n 0) 1 254 := ⟨by decide +kernel, rfl⟩
theorem eX0_findWay_254 : Dc cX0_findWay 254 (.getfield 151) 3 257 := ⟨by decide +kernel, rfl⟩
theorem eX0_findWay_257 : Dc cX0_findWay 257 (.aload_n 0) 1 258 := ⟨by decide +kernel, rfl⟩
theorem eX0_findWay_258 : Dc cX0_findWay 258 (.getfield 288) 3 261 := ⟨by decide +kernel, rfl⟩
theorem eX0_findWay_261 : Dc cX0_findWay 261 (.iconst 1) 1 262 := ⟨by decide +kernel, rfl⟩
theorem eX0_findWay_262 : Dc cX0_findWay 262 (.isub) 1 263 := ⟨by decide +kernel, rfl⟩
theorem eX0_findWay_263 : Dc cX0_findWay 263 (.iaload) 1 264 := ⟨by decide +kernel, rfl⟩
theorem eX0_findWay_264 : Dc cX0_findWay 264 (.aload_n 2) 1 265 := ⟨by decide +kernel, rfl⟩
theorem eX0_findWay_265 : Dc cX0_findWay 265 (.getfield 44) 3 268 := ⟨by decide +kernel, rfl⟩
theorem eX0_findWay_268 : Db cX0_findWay 268 (fun o => .if_icmp .eq o) 375 271 := ⟨107, by decide +kernel, by decide, rfl⟩
theorem eX0_findWay_271 : Dc cX0_findWay 271 (.aload_n 0) 1 272 := ⟨by decide +kernel, rfl⟩
theorem eX0_findWay_272 : Dc cX0_findWay 272 (.getfield 151) 3 275 := ⟨by decide +kernel, rfl⟩
theorem eX0_findWay_275 : Dc cX0_findWay 275 (.aload_n 0) 1 276 := ⟨by decide +kernel, rfl⟩
theorem eX0_findWay_276 : Dc cX0_findWay 276 (.getfield 288) 3 279 := ⟨by decide +kernel, rfl⟩
theorem eX0_findWay_279 : Dc cX0_findWay 279 (.iconst 1) 1 280 := ⟨by decide +kernel, rfl⟩
theorem eX0_findWay_280 : Dc cX0_findWay 280 (.isub) 1 281 := ⟨by decide +kernel, rfl⟩
theorem eX0_findWay_281 : Dc cX0_findWay 281 (.iaload) 1 282 := ⟨by decide +kernel, rfl⟩
theorem eX0_findWay_282 : Dc cX0_findWay 282 (.istore 6) 2 284 := ⟨by decide +kernel, rfl⟩
theorem eX0_findWay_284 : Dc cX0_findWay 284 (.iconst 0) 1 285 := ⟨by decide +kernel, rfl⟩
theorem eX0_findWay_285 : Dc cX0_findWay 285 (.istore 7) 2 287 := ⟨by decide +kernel, rfl⟩
theorem eX0_findWay_287 : Dc cX0_findWay 287 (.aload_n 0) 1 288 := ⟨by decide +kernel, rfl⟩
theorem eX0_findWay_288 : Dc cX0_findWay 288 (.getfield 148) 3 291 := ⟨by decide +kernel, rfl⟩
theorem eX0_findWay_291 : Dc cX0_findWay 291 (.iload 7) 2 293 := ⟨by decide +kernel, rfl⟩
theorem eX0_findWay_293 : Dc cX0_findWay 293 (.iaload) 1 294 := ⟨by decide +kernel, rfl⟩
theorem eX0_findWay_294 : Dc cX0_findWay 294 (.ldc 237) 2 296 := ⟨by decide +kernel, rfl⟩
theorem eX0_findWay_296 : Db cX0_findWay 296 (fun o => .if_icmp .eq o) 348 299 := ⟨52, by decide +kernel, by decide, rfl⟩
theorem eX0_findWay_299 : Dc cX0_findWay 299 (.iload 6) 2 301 := ⟨by decide +kernel, rfl⟩
theorem eX0_findWay_301 : Dc cX0_findWay 301 (.iload 7) 2 303 := ⟨by decide +kernel, rfl⟩
theorem eX0_findWay_303 : Dc cX0_findWay 303 (.invokestatic 224) 3 306 := ⟨by decide +kernel, rfl⟩
theorem eX0_findWay_306 : Db cX0_findWay 306 (fun o => .ifCond .eq o) 348 309 := ⟨42, by decide +kernel, by decide, rfl⟩
theorem eX0_findWay_309 : Dc cX0_findWay 309 (.aload_n 0) 1 310 := ⟨by decide +kernel, rfl⟩
theorem eX0_findWay_310 : Dc cX0_findWay 310 (.iload 6) 2 312 := ⟨by decide +kernel, rfl⟩
theorem eX0_findWay_312 : Dc cX0_findWay 312 (.iload 7) 2 314 := ⟨by decide +kernel, rfl⟩
theorem eX0_findWay_314 : Dc cX0_findWay 314 (.invokevirtual 17) 3 317 := ⟨by decide +kernel, rfl⟩
theorem eX0_findWay_317 : Dc cX0_findWay 317 (.iload 4) 2 319 := ⟨by decide +kernel, rfl⟩
theorem eX0_findWay_319 : Db cX0_findWay 319 (fun o => .if_icmp .gt o) 348 322 := ⟨29, by decide +kernel, by decide, rfl⟩
theorem eX0_findWay_322 : Dc cX0_findWay 322 (.aload_n 0) 1 323 := ⟨by decide +kernel, rfl⟩
theorem eX0_findWay_323 : Dc cX0_findWay 323 (.getfield 148) 3 326 := ⟨by decide +kernel, rfl⟩
theorem eX0_findWay_326 : Dc cX0_findWay 326 (.iload 7) 2 328 := ⟨by decide +kernel, rfl⟩
theorem eX0_findWay_328 : Dc cX0_findWay 328 (.iaload) 1 329 := ⟨by decide +kernel, rfl⟩
theorem eX0_findWay_329 : Dc cX0_findWay 329 (.aload_n 0) 1 330 := ⟨by decide +kernel, rfl⟩
theorem eX0_findWay_330 : Dc cX0_findWay 330 (.iload 6) 2 332 := ⟨by decide +kernel, rfl⟩
theorem eX0_findWay_332 : Dc cX0_findWay 332 (.iload 7) 2 334 := ⟨by decide +kernel, rfl⟩
theorem eX0_findWay_334 : Dc cX0_findWay 334 (.invokevirtual 266) 3 337 := ⟨by decide +kernel, rfl⟩
theorem eX0_findWay_337 : Dc cX0_findWay 337 (.iadd) 1 338 := ⟨by decide +kernel, rfl⟩
theorem eX0_findWay_338 : Dc cX0_findWay 338 (.aload_n 0) 1 339 := ⟨by decide +kernel, rfl⟩
theorem eX0_findWay_339 : Dc cX0_findWay 339 (.getfield 148) 3 342 := ⟨by decide +kernel, rfl⟩
theorem eX0_findWay_342 : Dc cX0_findWay 342 (.iload 6) 2 344 := ⟨by decide +kernel, rfl⟩
theorem eX0_findWay_344 : Dc cX0_findWay 344 (.iaload) 1 345 := ⟨by decide +kernel, rfl⟩
theorem eX0_findWay_345 : Db cX0_findWay 345 (fun o => .if_icmp .eq o) 354 348 := ⟨9, by decide +kernel, by decide, rfl⟩
theorem eX0_findWay_348 : Dc cX0_findWay 348 (.iinc 7 1) 3 351 := ⟨by decide +kernel, rfl⟩
theorem eX0_findWay_351 : Db cX0_findWay 351 (fun o => .goto o) 287 354 := ⟨-64, by decide +kernel, by decide, rfl⟩
theorem eX0_findWay_354 : Dc cX0_findWay 354 (.aload_n 0) 1 355 := ⟨by decide +kernel, rfl⟩
theorem eX0_findWay_355 : Dc cX0_findWay 355 (.getfield 151) 3 358 := ⟨by decide +kernel, rfl⟩
theorem eX0_findWay_358 : Dc cX0_findWay 358 (.aload_n 0) 1 359 := ⟨by decide +kernel, rfl⟩
theorem eX0_findWay_359 : Dc cX0_findWay 359 (.dup) 1 360 := ⟨by decide +kernel, rfl⟩
theorem eX0_findWay_360 : Dc cX0_findWay 360 (.getfield 288) 3 363 := ⟨by decide +kernel, rfl⟩
theorem eX0_findWay_363 : Dc cX0_findWay 363 (.dup_x1) 1 364 := ⟨by decide +kernel, rfl⟩
theorem eX0_findWay_364 : Dc cX0_findWay 364 (.iconst 1) 1 365 := ⟨by decide +kernel, rfl⟩
theorem eX0_findWay_365 : Dc cX0_findWay 365 (.iadd) 1 366 := ⟨by decide +kernel, rfl⟩
theorem eX0_findWay_366 : Dc cX0_findWay 366 (.putfield 288) 3 369 := ⟨by decide +kernel, rfl⟩
theorem eX0_findWay_369 : Dc cX0_findWay 369 (.iload 7) 2 371 := ⟨by decide +kernel, rfl⟩
theorem eX0_findWay_371 : Dc cX0_findWay 371 (.iastore) 1 372 := ⟨by decide +kernel, rfl⟩
theorem eX0_findWay_372 : Db cX0_findWay 372 (fun o => .goto o) 253 375 := ⟨-119, by decide +kernel, by decide, rfl⟩
theorem eX0_findWay_375 : Dc cX0_findWay 375 (.iconst 1) 1 376 := ⟨by decide +kernel, rfl⟩
theorem eX0_findWay_376 : Dc cX0_findWay 376 (.ireturn) 1 377 := ⟨by decide +kernel, rfl⟩
theorem eX0_mayGo_0 : Dc cX0_mayGo 0 (.aload_n 0) 1 1 := ⟨by decide +kernel, rfl⟩
theorem eX0_mayGo_1 : Dc cX0_mayGo 1 (.getfield 21) 3 4 := ⟨by decide +kernel, rfl⟩
theorem eX0_mayGo_4 : Dc cX0_mayGo 4 (.iload_n 1) 1 5 := ⟨by decide +kernel, rfl⟩
theorem eX0_mayGo_5 : Dc cX0_mayGo 5 (.iaload) 1 6 := ⟨by decide +kernel, rfl⟩
theorem eX0_mayGo_6 : Dc cX0_mayGo 6 (.iconst 2) 1 7 := ⟨by decide +kernel, rfl⟩
theorem eX0_mayGo_7 : Db cX0_mayGo 7 (fun o => .if_icmp .ne o) 31 10 := ⟨24, by decide +kernel, by decide, rfl⟩
theorem eX0_mayGo_10 : Dc cX0_mayGo 10 (.iload 4) 2 12 := ⟨by decide +kernel, rfl⟩
theorem eX0_mayGo_12 : Db cX0_mayGo 12 (fun o => .ifCond .ne o) 31 15 := ⟨19, by decide +kernel, by decide, rfl⟩
theorem eX0_mayGo_15 : Dc cX0_mayGo 15 (.iload_n 1) 1 16 := ⟨by decide +kernel, rfl⟩
theorem eX0_mayGo_16 : Dc cX0_mayGo 16 (.aload_n 2) 1 17 := ⟨by decide +kernel, rfl⟩
theorem eX0_mayGo_17 : Dc cX0_mayGo 17 (.getfield 44) 3 20 := ⟨by decide +kernel, rfl⟩
theorem eX0_mayGo_20 : Db cX0_mayGo 20 (fun o => .if_icmp .eq o) 31 23 := ⟨11, by decide +kernel, by decide, rfl⟩
theorem eX0_mayGo_23 : Dc cX0_mayGo 23 (.iload_n 1) 1 24 := ⟨by decide +kernel, rfl⟩
theorem eX0_mayGo_24 : Dc cX0_mayGo 24 (.aload_n 3) 1 25 := ⟨by decide +kernel, rfl⟩
theorem eX0_mayGo_25 : Dc cX0_mayGo 25 (.getfield 44) 3 28 := ⟨by decide +kernel, rfl⟩
theorem eX0_mayGo_28 : Db cX0_mayGo 28 (fun o => .if_icmp .ne o) 35 31 := ⟨7, by decide +kernel, by decide, rfl⟩
theorem eX0_mayGo_31 : Dc cX0_mayGo 31 (.iconst 1) 1 32 := ⟨by decide +kernel, rfl⟩
theorem eX0_mayGo_32 : Db cX0_mayGo 32 (fun o => .goto o) 36 35 := ⟨4, by decide +kernel, by decide, rfl⟩
theorem eX0_mayGo_35 : Dc cX0_mayGo 35 (.iconst 0) 1 36 := ⟨by decide +kernel, rfl⟩
theorem eX0_mayGo_36 : Dc cX0_mayGo 36 (.ireturn) 1 37 := ⟨by decide +kernel, rfl⟩
theorem eX0_claim_0 : Dc cX0_claim 0 (.iload_n 1) 1 1 := ⟨by decide +kernel, rfl⟩
theorem eX0_claim_1 : Dc cX0_claim 1 (.invokestatic 24) 3 4 := ⟨by decide +kernel, rfl⟩
theorem eX0_claim_4 : Db cX0_claim 4 (fun o => .ifCond .ne o) 9 7 := ⟨5, by decide +kernel, by decide, rfl⟩
theorem eX0_claim_7 : Dc cX0_claim 7 (.iconst (-1)) 1 8 := ⟨by decide +kernel, rfl⟩
theorem eX0_claim_8 : Dc cX0_claim 8 (.ireturn) 1 9 := ⟨by decide +kernel, rfl⟩
theorem eX0_claim_9 : Dc cX0_claim 9 (.iload_n 2) 1 10 := ⟨by decide +kernel, rfl⟩
theorem eX0_claim_10 : Dc cX0_claim 10 (.iconst 1) 1 11 := ⟨by decide +kernel, rfl⟩
theorem eX0_claim_11 : Dc cX0_claim 11 (.sipush 9999) 3 14 := ⟨by decide +kernel, rfl⟩
theorem eX0_claim_14 : Dc cX0_claim 14 (.invokestatic 3) 3 17 := ⟨by decide +kernel, rfl⟩
theorem eX0_claim_17 : Db cX0_claim 17 (fun o => .ifCond .ne o) 23 20 := ⟨6, by decide +kernel, by decide, rfl⟩
theorem eX0_claim_20 : Dc cX0_claim 20 (.bipush (-2)) 2 22 := ⟨by decide +kernel, rfl⟩
theorem eX0_claim_22 : Dc cX0_claim 22 (.ireturn) 1 23 := ⟨by decide +kernel, rfl⟩
theorem eX0_claim_23 : Dc cX0_claim 23 (.aload_n 0) 1 24 := ⟨by decide +kernel, rfl⟩
theorem eX0_claim_24 : Dc cX0_claim 24 (.invokevirtual 187) 3 27 := ⟨by decide +kernel, rfl⟩
theorem eX0_claim_27 : Db cX0_claim 27 (fun o => .ifCond .eq o) 35 30 := ⟨8, by decide +kernel, by decide, rfl⟩
theorem eX0_claim_30 : Dc cX0_claim 30 (.bipush (-4)) 2 32 := ⟨by decide +kernel, rfl⟩
theorem eX0_claim_32 : Db cX0_claim 32 (fun o => .goto o) 59 35 := ⟨27, by decide +kernel, by decide, rfl⟩
theorem eX0_claim_35 : Dc cX0_claim 35 (.aload_n 0) 1 36 := ⟨by decide +kernel, rfl⟩
theorem eX0_claim_36 : Dc cX0_claim 36 (.new 295) 3 39 := ⟨by decide +kernel, rfl⟩
theorem eX0_claim_39 : Dc cX0_claim 39 (.dup) 1 40 := ⟨by decide +kernel, rfl⟩
theorem eX0_claim_40 : Dc cX0_claim 40 (.aload_n 0) 1 41 := ⟨by decide +kernel, rfl⟩
theorem eX0_claim_41 : Dc cX0_claim 41 (.getfield 121) 3 44 := ⟨by decide +kernel, rfl⟩
theorem eX0_claim_44 : Dc cX0_claim 44 (.invokevirtual 32) 3 47 := ⟨by decide +kernel, rfl⟩
theorem eX0_claim_47 : Dc cX0_claim 47 (.aload_n 0) 1 48 := ⟨by decide +kernel, rfl⟩
theorem eX0_claim_48 : Dc cX0_claim 48 (.getfield 194) 3 51 := ⟨by decide +kernel, rfl⟩
theorem eX0_claim_51 : Dc cX0_claim 51 (.iload_n 1) 1 52 := ⟨by decide +kernel, rfl⟩
theorem eX0_claim_52 : Dc cX0_claim 52 (.iload_n 2) 1 53 := ⟨by decide +kernel, rfl⟩
theorem eX0_claim_53 : Dc cX0_claim 53 (.invokespecial 297) 3 56 := ⟨by decide +kernel, rfl⟩
theorem eX0_claim_56 : Dc cX0_claim 56 (.invokevirtual 200) 3 59 := ⟨by decide +kernel, rfl⟩
theorem eX0_claim_59 : Dc cX0_claim 59 (.ireturn) 1 60 := ⟨by decide +kernel, rfl⟩
