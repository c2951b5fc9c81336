/-! LINKS: what the entries of the pools name, as the rows ask it -/
set_option maxRecDepth 100000
theorem fX11_25_15 : fl_ "GoodHalfEmpty$Ruler" 25 15 0 := ⟨_, rfl, by decide, _, Or.inr ⟨_, (nw_in q222 rfl)⟩, Or.inl rfl⟩
theorem fX11_7_25 : fl_ "GoodHalfEmpty$Ruler" 7 25 2 := ⟨_, rfl, by decide, _, Or.inr ⟨_, (nw_in q593 rfl)⟩, Or.inl rfl⟩
theorem fX12_11_15 : fl_ "GoodHalfEmpty$Hat" 11 15 3 := ⟨_, rfl, by decide, _, Or.inr ⟨_, (nw_in q233 rfl)⟩, Or.inl rfl⟩
theorem fX12_17_15 : fl_ "GoodHalfEmpty$Hat" 17 15 6 := ⟨_, rfl, by decide, _, Or.inr ⟨_, (nw_in q243 rfl)⟩, Or.inl rfl⟩
theorem fX13_7_15 : fl_ "GoodHalfEmpty$Turn" 7 15 9 := ⟨_, rfl, by decide, _, Or.inr ⟨_, (nw_in q250 rfl)⟩, Or.inl rfl⟩
theorem fX13_13_25 : fl_ "GoodHalfEmpty$Turn" 13 25 2 := ⟨_, rfl, by decide, _, Or.inr ⟨_, (nw_in q592 rfl)⟩, Or.inl rfl⟩
theorem fX14_18_15 : fl_ "GoodHalfEmpty$Seer" 18 15 0 := ⟨_, rfl, by decide, _, Or.inr ⟨_, (nw_in q221 rfl)⟩, Or.inl rfl⟩
theorem fX14_7_15 : fl_ "GoodHalfEmpty$Seer" 7 15 11 := ⟨_, rfl, by decide, _, Or.inr ⟨_, (nw_in q254 rfl)⟩, Or.inl rfl⟩
theorem fX14_13_25 : fl_ "GoodHalfEmpty$Seer" 13 25 1 := ⟨_, rfl, by decide, _, Or.inr ⟨_, (nw_in q587 rfl)⟩, Or.inl rfl⟩
theorem fX15_9_15 : fl_ "GoodHalfEmpty$Town" 9 15 0 := ⟨_, rfl, by decide, _, Or.inl q219, Or.inl rfl⟩
theorem fX15_44_15 : fl_ "GoodHalfEmpty$Town" 44 15 1 := ⟨_, rfl, by decide, _, Or.inl q224, Or.inl rfl⟩
theorem fX15_17_15 : fl_ "GoodHalfEmpty$Town" 17 15 2 := ⟨_, rfl, by decide, _, Or.inl q227, Or.inl rfl⟩
theorem fX15_47_15 : fl_ "GoodHalfEmpty$Town" 47 15 3 := ⟨_, rfl, by decide, _, Or.inl q231, Or.inl rfl⟩
theorem fX15_23_15 : fl_ "GoodHalfEmpty$Town" 23 15 4 := ⟨_, rfl, by decide, _, Or.inl q235, Or.inl rfl⟩
theorem fX15_27_15 : fl_ "GoodHalfEmpty$Town" 27 15 5 := ⟨_, rfl, by decide, _, Or.inl q238, Or.inl rfl⟩
theorem fX15_31_15 : fl_ "GoodHalfEmpty$Town" 31 15 6 := ⟨_, rfl, by decide, _, Or.inl q241, Or.inl rfl⟩
theorem fX15_50_15 : fl_ "GoodHalfEmpty$Town" 50 15 7 := ⟨_, rfl, by decide, _, Or.inl q245, Or.inl rfl⟩
theorem fX15_34_15 : fl_ "GoodHalfEmpty$Town" 34 15 8 := ⟨_, rfl, by decide, _, Or.inl q247, Or.inl rfl⟩
theorem fX15_53_15 : fl_ "GoodHalfEmpty$Town" 53 15 9 := ⟨_, rfl, by decide, _, Or.inl q249, Or.inl rfl⟩
theorem fX15_56_15 : fl_ "GoodHalfEmpty$Town" 56 15 10 := ⟨_, rfl, by decide, _, Or.inl q252, Or.inl rfl⟩
theorem fX15_92_15 : fl_ "GoodHalfEmpty$Town" 92 15 11 := ⟨_, rfl, by decide, _, Or.inl q255, Or.inl rfl⟩
theorem fX15_37_15 : fl_ "GoodHalfEmpty$Town" 37 15 12 := ⟨_, rfl, by decide, _, Or.inl q256, Or.inl rfl⟩
theorem fX15_41_15 : fl_ "GoodHalfEmpty$Town" 41 15 13 := ⟨_, rfl, by decide, _, Or.inl q258, Or.inl rfl⟩
theorem fX15_78_25 : fl_ "GoodHalfEmpty$Town" 78 25 0 := ⟨_, rfl, by decide, _, Or.inr ⟨_, (nw_in q583 rfl)⟩, Or.inl rfl⟩
theorem fX15_65_25 : fl_ "GoodHalfEmpty$Town" 65 25 1 := ⟨_, rfl, by decide, _, Or.inr ⟨_, (nw_in q588 rfl)⟩, Or.inl rfl⟩
theorem fX15_110_25 : fl_ "GoodHalfEmpty$Town" 110 25 3 := ⟨_, rfl, by decide, _, Or.inr ⟨_, (nw_in q596 rfl)⟩, Or.inl rfl⟩
theorem fX15_113_25 : fl_ "GoodHalfEmpty$Town" 113 25 4 := ⟨_, rfl, by decide, _, Or.inr ⟨_, (nw_in q599 rfl)⟩, Or.inl rfl⟩
theorem fX15_120_25 : fl_ "GoodHalfEmpty$Town" 120 25 5 := ⟨_, rfl, by decide, _, Or.inr ⟨_, (nw_in q602 rfl)⟩, Or.inl rfl⟩
theorem fX18_7_18 : fl_ "GoodHalfEmpty$Refused" 7 18 6 := ⟨_, rfl, by decide, _, Or.inl q451, Or.inl rfl⟩
theorem fX19_97_0 : fl_ "GoodHalfEmpty$Reader" 97 0 0 := ⟨_, rfl, by decide, _, Or.inr ⟨_, (nw_in q291 rfl)⟩, Or.inl rfl⟩
theorem fX19_82_0 : fl_ "GoodHalfEmpty$Reader" 82 0 1 := ⟨_, rfl, by decide, _, Or.inr ⟨_, (nw_in q293 rfl)⟩, Or.inl rfl⟩
theorem fX19_25_0 : fl_ "GoodHalfEmpty$Reader" 25 0 8 := ⟨_, rfl, by decide, _, Or.inr ⟨_, (nw_in q300 rfl)⟩, Or.inl rfl⟩
theorem fX19_13_0 : fl_ "GoodHalfEmpty$Reader" 13 0 9 := ⟨_, rfl, by decide, _, Or.inr ⟨_, (nw_in q302 rfl)⟩, Or.inl rfl⟩
theorem fX19_19_19 : fl_ "GoodHalfEmpty$Reader" 19 19 0 := ⟨_, rfl, by decide, _, Or.inl q476, Or.inl rfl⟩
theorem fX19_22_19 : fl_ "GoodHalfEmpty$Reader" 22 19 1 := ⟨_, rfl, by decide, _, Or.inl q478, Or.inl rfl⟩
theorem fX19_1_19 : fl_ "GoodHalfEmpty$Reader" 1 19 2 := ⟨_, rfl, by decide, _, Or.inl q480, Or.inl rfl⟩
theorem fX20_7_20 : fl_ "GoodHalfEmpty$Fault" 7 20 6 := ⟨_, rfl, by decide, _, Or.inl q515, Or.inl rfl⟩
theorem fX21_7_22 : fl_ "GoodHalfEmpty$Told" 7 22 0 := ⟨_, rfl, by decide, _, Or.inl q545, Or.inl rfl⟩
theorem fX21_7_23 : fl_ "GoodHalfEmpty$Told" 7 23 0 := ⟨_, rfl, by decide, _, Or.inl q545, Or.inl rfl⟩
theorem fX21_7_24 : fl_ "GoodHalfEmpty$Told" 7 24 0 := ⟨_, rfl, by decide, _, Or.inl q545, Or.inl rfl⟩
theorem fX21_7_26 : fl_ "GoodHalfEmpty$Told" 7 26 0 := ⟨_, rfl, by decide, _, Or.inl q545, Or.inl rfl⟩
theorem fX22_15_15 : fl_ "GoodHalfEmpty$NumberTold" 15 15 0 := ⟨_, rfl, by decide, _, Or.inr ⟨_, (nw_in q220 rfl)⟩, Or.inl rfl⟩
theorem fX22_9_22 : fl_ "GoodHalfEmpty$NumberTold" 9 22 1 := ⟨_, rfl, by decide, _, Or.inl q542, Or.inl rfl⟩
theorem fX22_9_23 : fl_ "GoodHalfEmpty$NumberTold" 9 23 1 := ⟨_, rfl, by decide, _, Or.inl q542, Or.inl rfl⟩
theorem fX23_7_22 : fl_ "GoodHalfEmpty$WeekTold" 7 22 1 := ⟨_, rfl, by decide, _, Or.inl q543, Or.inr q544⟩
theorem fX23_7_23 : fl_ "GoodHalfEmpty$WeekTold" 7 23 1 := ⟨_, rfl, by decide, _, Or.inl q543, Or.inr q544⟩
theorem fX24_39_15 : fl_ "GoodHalfEmpty$SortTold" 39 15 1 := ⟨_, rfl, by decide, _, Or.inr ⟨_, (nw_in q225 rfl)⟩, Or.inl rfl⟩
theorem fX24_42_15 : fl_ "GoodHalfEmpty$SortTold" 42 15 2 := ⟨_, rfl, by decide, _, Or.inr ⟨_, (nw_in q228 rfl)⟩, Or.inl rfl⟩
theorem fX24_34_15 : fl_ "GoodHalfEmpty$SortTold" 34 15 3 := ⟨_, rfl, by decide, _, Or.inr ⟨_, (nw_in q232 rfl)⟩, Or.inl rfl⟩
theorem fX24_21_25 : fl_ "GoodHalfEmpty$SortTold" 21 25 0 := ⟨_, rfl, by decide, _, Or.inr ⟨_, (nw_in q582 rfl)⟩, Or.inl rfl⟩
theorem fX24_15_25 : fl_ "GoodHalfEmpty$SortTold" 15 25 1 := ⟨_, rfl, by decide, _, Or.inr ⟨_, (nw_in q586 rfl)⟩, Or.inl rfl⟩
theorem fX24_31_25 : fl_ "GoodHalfEmpty$SortTold" 31 25 2 := ⟨_, rfl, by decide, _, Or.inr ⟨_, (nw_in q591 rfl)⟩, Or.inl rfl⟩
theorem fX24_9_24 : fl_ "GoodHalfEmpty$SortTold" 9 24 1 := ⟨_, rfl, by decide, _, Or.inl q621, Or.inl rfl⟩
theorem fX25_7_25 : fl_ "GoodHalfEmpty$Sort" 7 25 0 := ⟨_, rfl, by decide, _, Or.inl q581, Or.inl rfl⟩
theorem fX25_13_25 : fl_ "GoodHalfEmpty$Sort" 13 25 1 := ⟨_, rfl, by decide, _, Or.inl q585, Or.inl rfl⟩
theorem fX25_17_25 : fl_ "GoodHalfEmpty$Sort" 17 25 2 := ⟨_, rfl, by decide, _, Or.inl q590, Or.inl rfl⟩
theorem fX25_20_25 : fl_ "GoodHalfEmpty$Sort" 20 25 3 := ⟨_, rfl, by decide, _, Or.inl q595, Or.inl rfl⟩
theorem fX25_23_25 : fl_ "GoodHalfEmpty$Sort" 23 25 4 := ⟨_, rfl, by decide, _, Or.inl q598, Or.inl rfl⟩
theorem fX25_26_25 : fl_ "GoodHalfEmpty$Sort" 26 25 5 := ⟨_, rfl, by decide, _, Or.inl q601, Or.inl rfl⟩
theorem fX26_25_15 : fl_ "GoodHalfEmpty$RuleTold" 25 15 3 := ⟨_, rfl, by decide, _, Or.inr ⟨_, (nw_in q230 rfl)⟩, Or.inl rfl⟩
theorem fX26_30_15 : fl_ "GoodHalfEmpty$RuleTold" 30 15 4 := ⟨_, rfl, by decide, _, Or.inr ⟨_, (nw_in q236 rfl)⟩, Or.inl rfl⟩
theorem fX26_33_15 : fl_ "GoodHalfEmpty$RuleTold" 33 15 5 := ⟨_, rfl, by decide, _, Or.inr ⟨_, (nw_in q239 rfl)⟩, Or.inl rfl⟩
theorem fX26_37_15 : fl_ "GoodHalfEmpty$RuleTold" 37 15 6 := ⟨_, rfl, by decide, _, Or.inr ⟨_, (nw_in q242 rfl)⟩, Or.inl rfl⟩
theorem fX26_9_26 : fl_ "GoodHalfEmpty$RuleTold" 9 26 1 := ⟨_, rfl, by decide, _, Or.inl q640, Or.inl rfl⟩
theorem fX26_15_26 : fl_ "GoodHalfEmpty$RuleTold" 15 26 2 := ⟨_, rfl, by decide, _, Or.inl q641, Or.inl rfl⟩
theorem fX0_171_15 : fl_ "GoodHalfEmpty" 171 15 0 := ⟨_, rfl, by decide, _, Or.inr ⟨_, (nw_in q223 rfl)⟩, Or.inl rfl⟩
theorem fX0_177_15 : fl_ "GoodHalfEmpty" 177 15 1 := ⟨_, rfl, by decide, _, Or.inr ⟨_, (nw_in q226 rfl)⟩, Or.inl rfl⟩
theorem fX0_180_15 : fl_ "GoodHalfEmpty" 180 15 2 := ⟨_, rfl, by decide, _, Or.inr ⟨_, (nw_in q229 rfl)⟩, Or.inl rfl⟩
theorem fX0_252_15 : fl_ "GoodHalfEmpty" 252 15 3 := ⟨_, rfl, by decide, _, Or.inr ⟨_, (nw_in q234 rfl)⟩, Or.inl rfl⟩
theorem fX0_334_15 : fl_ "GoodHalfEmpty" 334 15 4 := ⟨_, rfl, by decide, _, Or.inr ⟨_, (nw_in q237 rfl)⟩, Or.inl rfl⟩
theorem fX0_255_15 : fl_ "GoodHalfEmpty" 255 15 5 := ⟨_, rfl, by decide, _, Or.inr ⟨_, (nw_in q240 rfl)⟩, Or.inl rfl⟩
theorem fX0_338_15 : fl_ "GoodHalfEmpty" 338 15 6 := ⟨_, rfl, by decide, _, Or.inr ⟨_, (nw_in q244 rfl)⟩, Or.inl rfl⟩
theorem fX0_262_15 : fl_ "GoodHalfEmpty" 262 15 7 := ⟨_, rfl, by decide, _, Or.inr ⟨_, (nw_in q246 rfl)⟩, Or.inl rfl⟩
theorem fX0_267_15 : fl_ "GoodHalfEmpty" 267 15 8 := ⟨_, rfl, by decide, _, Or.inr ⟨_, (nw_in q248 rfl)⟩, Or.inl rfl⟩
theorem fX0_424_15 : fl_ "GoodHalfEmpty" 424 15 9 := ⟨_, rfl, by decide, _, Or.inr ⟨_, (nw_in q251 rfl)⟩, Or.inl rfl⟩
theorem fX0_236_15 : fl_ "GoodHalfEmpty" 236 15 10 := ⟨_, rfl, by decide, _, Or.inr ⟨_, (nw_in q253 rfl)⟩, Or.inl rfl⟩
theorem fX0_347_15 : fl_ "GoodHalfEmpty" 347 15 12 := ⟨_, rfl, by decide, _, Or.inr ⟨_, (nw_in q257 rfl)⟩, Or.inl rfl⟩
theorem fX0_42_0 : fl_ "GoodHalfEmpty" 42 0 0 := ⟨_, rfl, by decide, _, Or.inl q290, Or.inl rfl⟩
theorem fX0_66_0 : fl_ "GoodHalfEmpty" 66 0 1 := ⟨_, rfl, by decide, _, Or.inl q292, Or.inl rfl⟩
theorem fX0_73_0 : fl_ "GoodHalfEmpty" 73 0 2 := ⟨_, rfl, by decide, _, Or.inl q294, Or.inl rfl⟩
theorem fX0_77_0 : fl_ "GoodHalfEmpty" 77 0 3 := ⟨_, rfl, by decide, _, Or.inl q295, Or.inl rfl⟩
theorem fX0_80_0 : fl_ "GoodHalfEmpty" 80 0 4 := ⟨_, rfl, by decide, _, Or.inl q296, Or.inl rfl⟩
theorem fX0_420_0 : fl_ "GoodHalfEmpty" 420 0 5 := ⟨_, rfl, by decide, _, Or.inl q297, Or.inl rfl⟩
theorem fX0_83_0 : fl_ "GoodHalfEmpty" 83 0 6 := ⟨_, rfl, by decide, _, Or.inl q298, Or.inl rfl⟩
theorem fX0_274_0 : fl_ "GoodHalfEmpty" 274 0 7 := ⟨_, rfl, by decide, _, Or.inl q299, Or.inl rfl⟩
theorem fX0_87_0 : fl_ "GoodHalfEmpty" 87 0 8 := ⟨_, rfl, by decide, _, Or.inl q301, Or.inl rfl⟩
theorem fX0_112_0 : fl_ "GoodHalfEmpty" 112 0 9 := ⟨_, rfl, by decide, _, Or.inl q303, Or.inl rfl⟩
theorem fX0_91_0 : fl_ "GoodHalfEmpty" 91 0 10 := ⟨_, rfl, by decide, _, Or.inl q304, Or.inl rfl⟩
theorem fX0_150_0 : fl_ "GoodHalfEmpty" 150 0 11 := ⟨_, rfl, by decide, _, Or.inl q305, Or.inl rfl⟩
theorem fX0_156_0 : fl_ "GoodHalfEmpty" 156 0 12 := ⟨_, rfl, by decide, _, Or.inl q306, Or.inl rfl⟩
theorem fX0_165_0 : fl_ "GoodHalfEmpty" 165 0 13 := ⟨_, rfl, by decide, _, Or.inl q307, Or.inl rfl⟩
theorem fX0_153_0 : fl_ "GoodHalfEmpty" 153 0 14 := ⟨_, rfl, by decide, _, Or.inl q308, Or.inl rfl⟩
theorem fX0_95_0 : fl_ "GoodHalfEmpty" 95 0 15 := ⟨_, rfl, by decide, _, Or.inl q309, Or.inl rfl⟩
theorem fX0_98_0 : fl_ "GoodHalfEmpty" 98 0 16 := ⟨_, rfl, by decide, _, Or.inl q310, Or.inl rfl⟩
theorem fX0_101_0 : fl_ "GoodHalfEmpty" 101 0 17 := ⟨_, rfl, by decide, _, Or.inl q311, Or.inl rfl⟩
theorem fX0_196_0 : fl_ "GoodHalfEmpty" 196 0 18 := ⟨_, rfl, by decide, _, Or.inl q312, Or.inl rfl⟩
theorem fX0_224_0 : fl_ "GoodHalfEmpty" 224 0 19 := ⟨_, rfl, by decide, _, Or.inl q313, Or.inl rfl⟩
theorem fX0_227_0 : fl_ "GoodHalfEmpty" 227 0 20 := ⟨_, rfl, by decide, _, Or.inl q314, Or.inl rfl⟩
theorem fX0_206_0 : fl_ "GoodHalfEmpty" 206 0 21 := ⟨_, rfl, by decide, _, Or.inl q315, Or.inl rfl⟩
theorem fX0_209_0 : fl_ "GoodHalfEmpty" 209 0 22 := ⟨_, rfl, by decide, _, Or.inl q316, Or.inl rfl⟩
theorem fX0_104_0 : fl_ "GoodHalfEmpty" 104 0 23 := ⟨_, rfl, by decide, _, Or.inl q317, Or.inl rfl⟩
theorem fX0_125_19 : fl_ "GoodHalfEmpty" 125 19 0 := ⟨_, rfl, by decide, _, Or.inr ⟨_, (nw_in q477 rfl)⟩, Or.inl rfl⟩
theorem fX0_122_19 : fl_ "GoodHalfEmpty" 122 19 1 := ⟨_, rfl, by decide, _, Or.inr ⟨_, (nw_in q479 rfl)⟩, Or.inl rfl⟩
theorem fX0_138_22 : fl_ "GoodHalfEmpty" 138 22 0 := ⟨_, rfl, by decide, _, Or.inl q546, Or.inl rfl⟩
theorem fX0_138_23 : fl_ "GoodHalfEmpty" 138 23 0 := ⟨_, rfl, by decide, _, Or.inl q546, Or.inl rfl⟩
theorem fX0_138_24 : fl_ "GoodHalfEmpty" 138 24 0 := ⟨_, rfl, by decide, _, Or.inl q546, Or.inl rfl⟩
theorem fX0_138_26 : fl_ "GoodHalfEmpty" 138 26 0 := ⟨_, rfl, by decide, _, Or.inl q546, Or.inl rfl⟩
theorem fX0_316_25 : fl_ "GoodHalfEmpty" 316 25 0 := ⟨_, rfl, by decide, _, Or.inr ⟨_, (nw_in q584 rfl)⟩, Or.inl rfl⟩
theorem fX0_184_25 : fl_ "GoodHalfEmpty" 184 25 1 := ⟨_, rfl, by decide, _, Or.inr ⟨_, (nw_in q589 rfl)⟩, Or.inl rfl⟩
theorem fX0_323_25 : fl_ "GoodHalfEmpty" 323 25 2 := ⟨_, rfl, by decide, _, Or.inr ⟨_, (nw_in q594 rfl)⟩, Or.inl rfl⟩
theorem fX0_326_25 : fl_ "GoodHalfEmpty" 326 25 3 := ⟨_, rfl, by decide, _, Or.inr ⟨_, (nw_in q597 rfl)⟩, Or.inl rfl⟩
theorem fX0_329_25 : fl_ "GoodHalfEmpty" 329 25 4 := ⟨_, rfl, by decide, _, Or.inr ⟨_, (nw_in q600 rfl)⟩, Or.inl rfl⟩
theorem fX0_189_25 : fl_ "GoodHalfEmpty" 189 25 5 := ⟨_, rfl, by decide, _, Or.inr ⟨_, (nw_in q603 rfl)⟩, Or.inl rfl⟩
theorem fX16_1_16 : fl_ "GoodHalfEmptyModel" 1 16 0 := ⟨_, rfl, by decide, _, Or.inl q1161, Or.inl rfl⟩
theorem fX16_11_16 : fl_ "GoodHalfEmptyModel" 11 16 1 := ⟨_, rfl, by decide, _, Or.inl q1162, Or.inl rfl⟩
theorem fX16_14_16 : fl_ "GoodHalfEmptyModel" 14 16 2 := ⟨_, rfl, by decide, _, Or.inl q1163, Or.inl rfl⟩
theorem fX16_31_16 : fl_ "GoodHalfEmptyModel" 31 16 3 := ⟨_, rfl, by decide, _, Or.inl q1164, Or.inl rfl⟩
theorem fX16_7_16 : fl_ "GoodHalfEmptyModel" 7 16 4 := ⟨_, rfl, by decide, _, Or.inl q1165, Or.inl rfl⟩
theorem fX16_34_16 : fl_ "GoodHalfEmptyModel" 34 16 5 := ⟨_, rfl, by decide, _, Or.inl q1166, Or.inl rfl⟩
theorem fX16_73_16 : fl_ "GoodHalfEmptyModel" 73 16 6 := ⟨_, rfl, by decide, _, Or.inl q1167, Or.inl rfl⟩
theorem fX16_80_16 : fl_ "GoodHalfEmptyModel" 80 16 7 := ⟨_, rfl, by decide, _, Or.inl q1168, Or.inl rfl⟩
theorem fX16_77_16 : fl_ "GoodHalfEmptyModel" 77 16 8 := ⟨_, rfl, by decide, _, Or.inl q1169, Or.inl rfl⟩
theorem fX16_37_16 : fl_ "GoodHalfEmptyModel" 37 16 9 := ⟨_, rfl, by decide, _, Or.inl q1170, Or.inl rfl⟩
theorem fX16_41_16 : fl_ "GoodHalfEmptyModel" 41 16 10 := ⟨_, rfl, by decide, _, Or.inl q1171, Or.inl rfl⟩
theorem fX16_44_16 : fl_ "GoodHalfEmptyModel" 44 16 11 := ⟨_, rfl, by decide, _, Or.inl q1172, Or.inl rfl⟩
theorem fX16_87_16 : fl_ "GoodHalfEmptyModel" 87 16 12 := ⟨_, rfl, by decide, _, Or.inl q1173, Or.inl rfl⟩
theorem fX16_47_16 : fl_ "GoodHalfEmptyModel" 47 16 13 := ⟨_, rfl, by decide, _, Or.inl q1174, Or.inl rfl⟩
theorem fX16_50_16 : fl_ "GoodHalfEmptyModel" 50 16 14 := ⟨_, rfl, by decide, _, Or.inl q1175, Or.inl rfl⟩
theorem fX16_54_16 : fl_ "GoodHalfEmptyModel" 54 16 15 := ⟨_, rfl, by decide, _, Or.inl q1176, Or.inl rfl⟩
theorem fX16_57_16 : fl_ "GoodHalfEmptyModel" 57 16 16 := ⟨_, rfl, by decide, _, Or.inl q1177, Or.inl rfl⟩
theorem fX16_60_16 : fl_ "GoodHalfEmptyModel" 60 16 17 := ⟨_, rfl, by decide, _, Or.inl q1178, Or.inl rfl⟩
theorem fX16_164_16 : fl_ "GoodHalfEmptyModel" 164 16 18 := ⟨_, rfl, by decide, _, Or.inl q1179, Or.inl rfl⟩
theorem fX16_185_16 : fl_ "GoodHalfEmptyModel" 185 16 19 := ⟨_, rfl, by decide, _, Or.inl q1180, Or.inl rfl⟩
theorem fX16_182_16 : fl_ "GoodHalfEmptyModel" 182 16 20 := ⟨_, rfl, by decide, _, Or.inl q1181, Or.inl rfl⟩
theorem fX16_173_16 : fl_ "GoodHalfEmptyModel" 173 16 21 := ⟨_, rfl, by decide, _, Or.inl q1182, Or.inl rfl⟩
theorem fX16_176_16 : fl_ "GoodHalfEmptyModel" 176 16 22 := ⟨_, rfl, by decide, _, Or.inl q1183, Or.inl rfl⟩
theorem fX16_167_16 : fl_ "GoodHalfEmptyModel" 167 16 23 := ⟨_, rfl, by decide, _, Or.inl q1184, Or.inl rfl⟩
theorem fX16_63_16 : fl_ "GoodHalfEmptyModel" 63 16 24 := ⟨_, rfl, by decide, _, Or.inl q1185, Or.inl rfl⟩
theorem fX16_66_16 : fl_ "GoodHalfEmptyModel" 66 16 25 := ⟨_, rfl, by decide, _, Or.inl q1186, Or.inl rfl⟩
theorem fX16_198_16 : fl_ "GoodHalfEmptyModel" 198 16 26 := ⟨_, rfl, by decide, _, Or.inl q1187, Or.inl rfl⟩
theorem p0_0 : fp_ "GoodHalfEmpty" "<init>" 0 0 := fun q h => by cases h; exact Or.inr ⟨rfl, rfl⟩
theorem p0_1 : fp_ "GoodHalfEmpty" "<init>" 0 1 := fun q h => by cases h; exact Or.inr ⟨rfl, rfl⟩
theorem p0_2 : fp_ "GoodHalfEmpty" "<init>" 0 2 := fun q h => by cases h; exact Or.inr ⟨rfl, rfl⟩
theorem p0_3 : fp_ "GoodHalfEmpty" "<init>" 0 3 := fun q h => by cases h; exact Or.inr ⟨rfl, rfl⟩
theorem p0_4 : fp_ "GoodHalfEmpty" "<init>" 0 4 := fun q h => by cases h; exact Or.inr ⟨rfl, rfl⟩
theorem p0_5 {own nm : String} : fp_ own nm 0 5 := fun q h => by cases h; exact Or.inl rfl
theorem p0_6 : fp_ "GoodHalfEmpty" "<init>" 0 6 := fun q h => by cases h; exact Or.inr ⟨rfl, rfl⟩
theorem p0_7 {own nm : String} : fp_ own nm 0 7 := fun q h => by cases h; exact Or.inl rfl
theorem p0_8 : fp_ "GoodHalfEmpty" "<init>" 0 8 := fun q h => by cases h; exact Or.inr ⟨rfl, rfl⟩
theorem p0_9 {own nm : String} : fp_ own nm 0 9 := fun q h => by cases h; exact Or.inl rfl
theorem p0_10 : fp_ "GoodHalfEmpty" "<init>" 0 10 := fun q h => by cases h; exact Or.inr ⟨rfl, rfl⟩
theorem p0_11 {own nm : String} : fp_ own nm 0 11 := fun q h => by cases h; exact Or.inl rfl
theorem p0_12 {own nm : String} : fp_ own nm 0 12 := fun q h => by cases h; exact Or.inl rfl
theorem p0_13 {own nm : String} : fp_ own nm 0 13 := fun q h => by cases h; exact Or.inl rfl
theorem p0_14 {own nm : String} : fp_ own nm 0 14 := fun q h => by cases h; exact Or.inl rfl
theorem p0_15 : fp_ "GoodHalfEmpty" "<init>" 0 15 := fun q h => by cases h; exact Or.inr ⟨rfl, rfl⟩
theorem p0_16 : fp_ "GoodHalfEmpty" "<init>" 0 16 := fun q h => by cases h; exact Or.inr ⟨rfl, rfl⟩
theorem p0_17 : fp_ "GoodHalfEmpty" "<init>" 0 17 := fun q h => by cases h; exact Or.inr ⟨rfl, rfl⟩
theorem p0_18 {own nm : String} : fp_ own nm 0 18 := fun q h => by cases h; exact Or.inl rfl
theorem p0_19 {own nm : String} : fp_ own nm 0 19 := fun q h => by cases h; exact Or.inl rfl
theorem p0_20 {own nm : String} : fp_ own nm 0 20 := fun q h => by cases h; exact Or.inl rfl
theorem p0_21 {own nm : String} : fp_ own nm 0 21 := fun q h => by cases h; exact Or.inl rfl
theorem p0_22 {own nm : String} : fp_ own nm 0 22 := fun q h => by cases h; exact Or.inl rfl
theorem p0_23 : fp_ "GoodHalfEmpty" "<init>" 0 23 := fun q h => by cases h; exact Or.inr ⟨rfl, rfl⟩
theorem p15_0 {own nm : String} : fp_ own nm 15 0 := fun q h => by cases h; exact Or.inl rfl
theorem p15_1 {own nm : String} : fp_ own nm 15 1 := fun q h => by cases h; exact Or.inl rfl
theorem p15_2 : fp_ "GoodHalfEmpty$Town" "<init>" 15 2 := fun q h => by cases h; exact Or.inr ⟨rfl, rfl⟩
theorem p15_3 {own nm : String} : fp_ own nm 15 3 := fun q h => by cases h; exact Or.inl rfl
theorem p15_4 : fp_ "GoodHalfEmpty$Town" "<init>" 15 4 := fun q h => by cases h; exact Or.inr ⟨rfl, rfl⟩
theorem p15_5 : fp_ "GoodHalfEmpty$Town" "<init>" 15 5 := fun q h => by cases h; exact Or.inr ⟨rfl, rfl⟩
theorem p15_6 : fp_ "GoodHalfEmpty$Town" "<init>" 15 6 := fun q h => by cases h; exact Or.inr ⟨rfl, rfl⟩
theorem p15_7 {own nm : String} : fp_ own nm 15 7 := fun q h => by cases h; exact Or.inl rfl
theorem p15_8 : fp_ "GoodHalfEmpty$Town" "<init>" 15 8 := fun q h => by cases h; exact Or.inr ⟨rfl, rfl⟩
theorem p15_9 {own nm : String} : fp_ own nm 15 9 := fun q h => by cases h; exact Or.inl rfl
theorem p15_10 {own nm : String} : fp_ own nm 15 10 := fun q h => by cases h; exact Or.inl rfl
theorem p15_11 {own nm : String} : fp_ own nm 15 11 := fun q h => by cases h; exact Or.inl rfl
theorem p15_12 : fp_ "GoodHalfEmpty$Town" "<init>" 15 12 := fun q h => by cases h; exact Or.inr ⟨rfl, rfl⟩
theorem p15_13 : fp_ "GoodHalfEmpty$Town" "<init>" 15 13 := fun q h => by cases h; exact Or.inr ⟨rfl, rfl⟩
theorem p16_0 : fp_ "GoodHalfEmptyModel" "<init>" 16 0 := fun q h => by cases h; exact Or.inr ⟨rfl, rfl⟩
theorem p16_1 : fp_ "GoodHalfEmptyModel" "<init>" 16 1 := fun q h => by cases h; exact Or.inr ⟨rfl, rfl⟩
theorem p16_2 : fp_ "GoodHalfEmptyModel" "<init>" 16 2 := fun q h => by cases h; exact Or.inr ⟨rfl, rfl⟩
theorem p16_3 : fp_ "GoodHalfEmptyModel" "<init>" 16 3 := fun q h => by cases h; exact Or.inr ⟨rfl, rfl⟩
theorem p16_4 {own nm : String} : fp_ own nm 16 4 := fun q h => by cases h; exact Or.inl rfl
theorem p16_5 : fp_ "GoodHalfEmptyModel" "<init>" 16 5 := fun q h => by cases h; exact Or.inr ⟨rfl, rfl⟩
theorem p16_6 {own nm : String} : fp_ own nm 16 6 := fun q h => by cases h; exact Or.inl rfl
theorem p16_7 {own nm : String} : fp_ own nm 16 7 := fun q h => by cases h; exact Or.inl rfl
theorem p16_8 {own nm : String} : fp_ own nm 16 8 := fun q h => by cases h; exact Or.inl rfl
theorem p16_9 : fp_ "GoodHalfEmptyModel" "<init>" 16 9 := fun q h => by cases h; exact Or.inr ⟨rfl, rfl⟩
theorem p16_10 : fp_ "GoodHalfEmptyModel" "<init>" 16 10 := fun q h => by cases h; exact Or.inr ⟨rfl, rfl⟩
theorem p16_11 : fp_ "GoodHalfEmptyModel" "<init>" 16 11 := fun q h => by cases h; exact Or.inr ⟨rfl, rfl⟩
theorem p16_12 {own nm : String} : fp_ own nm 16 12 := fun q h => by cases h; exact Or.inl rfl
theorem p16_13 : fp_ "GoodHalfEmptyModel" "<init>" 16 13 := fun q h => by cases h; exact Or.inr ⟨rfl, rfl⟩
theorem p16_14 : fp_ "GoodHalfEmptyModel" "<init>" 16 14 := fun q h => by cases h; exact Or.inr ⟨rfl, rfl⟩
theorem p16_15 : fp_ "GoodHalfEmptyModel" "<init>" 16 15 := fun q h => by cases h; exact Or.inr ⟨rfl, rfl⟩
theorem p16_16 : fp_ "GoodHalfEmptyModel" "<init>" 16 16 := fun q h => by cases h; exact Or.inr ⟨rfl, rfl⟩
theorem p16_17 : fp_ "GoodHalfEmptyModel" "<init>" 16 17 := fun q h => by cases h; exact Or.inr ⟨rfl, rfl⟩
theorem p16_18 {own nm : String} : fp_ own nm 16 18 := fun q h => by cases h; exact Or.inl rfl
theorem p16_19 {own nm : String} : fp_ own nm 16 19 := fun q h => by cases h; exact Or.inl rfl
theorem p16_20 {own nm : String} : fp_ own nm 16 20 := fun q h => by cases h; exact Or.inl rfl
theorem p16_21 {own nm : String} : fp_ own nm 16 21 := fun q h => by cases h; exact Or.inl rfl
theorem p16_22 {own nm : String} : fp_ own nm 16 22 := fun q h => by cases h; exact Or.inl rfl
theorem p16_23 {own nm : String} : fp_ own nm 16 23 := fun q h => by cases h; exact Or.inl rfl
theorem p16_24 : fp_ "GoodHalfEmptyModel" "<init>" 16 24 := fun q h => by cases h; exact Or.inr ⟨rfl, rfl⟩
theorem p16_25 : fp_ "GoodHalfEmptyModel" "<init>" 16 25 := fun q h => by cases h; exact Or.inr ⟨rfl, rfl⟩
theorem p16_26 {own nm : String} : fp_ own nm 16 26 := fun q h => by cases h; exact Or.inl rfl
theorem p18_0 {own nm : String} : fp_ own nm 18 0 := fun q h => by cases h; exact Or.inl rfl
theorem p18_1 {own nm : String} : fp_ own nm 18 1 := fun q h => by cases h; exact Or.inl rfl
theorem p18_2 {own nm : String} : fp_ own nm 18 2 := fun q h => by cases h; exact Or.inl rfl
theorem p18_3 {own nm : String} : fp_ own nm 18 3 := fun q h => by cases h; exact Or.inl rfl
theorem p18_4 {own nm : String} : fp_ own nm 18 4 := fun q h => by cases h; exact Or.inl rfl
theorem p18_5 {own nm : String} : fp_ own nm 18 5 := fun q h => by cases h; exact Or.inl rfl
theorem p18_6 : fp_ "GoodHalfEmpty$Refused" "<init>" 18 6 := fun q h => by cases h; exact Or.inr ⟨rfl, rfl⟩
theorem p19_0 : fp_ "GoodHalfEmpty$Reader" "<init>" 19 0 := fun q h => by cases h; exact Or.inr ⟨rfl, rfl⟩
theorem p19_1 {own nm : String} : fp_ own nm 19 1 := fun q h => by cases h; exact Or.inl rfl
theorem p19_2 : fp_ "GoodHalfEmpty$Reader" "<init>" 19 2 := fun q h => by cases h; exact Or.inr ⟨rfl, rfl⟩
theorem p20_0 {own nm : String} : fp_ own nm 20 0 := fun q h => by cases h; exact Or.inl rfl
theorem p20_1 {own nm : String} : fp_ own nm 20 1 := fun q h => by cases h; exact Or.inl rfl
theorem p20_2 {own nm : String} : fp_ own nm 20 2 := fun q h => by cases h; exact Or.inl rfl
theorem p20_3 {own nm : String} : fp_ own nm 20 3 := fun q h => by cases h; exact Or.inl rfl
theorem p20_4 {own nm : String} : fp_ own nm 20 4 := fun q h => by cases h; exact Or.inl rfl
theorem p20_5 {own nm : String} : fp_ own nm 20 5 := fun q h => by cases h; exact Or.inl rfl
theorem p20_6 : fp_ "GoodHalfEmpty$Fault" "<init>" 20 6 := fun q h => by cases h; exact Or.inr ⟨rfl, rfl⟩
theorem p22_0 : fp_ "GoodHalfEmpty$Told" "<init>" 22 0 := fun q h => by cases h; exact Or.inr ⟨rfl, rfl⟩
theorem p22_1 : fp_ "GoodHalfEmpty$NumberTold" "<init>" 22 1 := fun q h => by cases h; exact Or.inr ⟨rfl, rfl⟩
theorem p23_0 : fp_ "GoodHalfEmpty$Told" "<init>" 23 0 := fun q h => by cases h; exact Or.inr ⟨rfl, rfl⟩
theorem p23_1 : fp_ "GoodHalfEmpty$NumberTold" "<init>" 23 1 := fun q h => by cases h; exact Or.inr ⟨rfl, rfl⟩
theorem p24_0 : fp_ "GoodHalfEmpty$Told" "<init>" 24 0 := fun q h => by cases h; exact Or.inr ⟨rfl, rfl⟩
theorem p24_1 : fp_ "GoodHalfEmpty$SortTold" "<init>" 24 1 := fun q h => by cases h; exact Or.inr ⟨rfl, rfl⟩
theorem p25_0 : fp_ "GoodHalfEmpty$Sort" "<init>" 25 0 := fun q h => by cases h; exact Or.inr ⟨rfl, rfl⟩
theorem p25_1 : fp_ "GoodHalfEmpty$Sort" "<init>" 25 1 := fun q h => by cases h; exact Or.inr ⟨rfl, rfl⟩
theorem p25_2 : fp_ "GoodHalfEmpty$Sort" "<init>" 25 2 := fun q h => by cases h; exact Or.inr ⟨rfl, rfl⟩
theorem p25_3 : fp_ "GoodHalfEmpty$Sort" "<init>" 25 3 := fun q h => by cases h; exact Or.inr ⟨rfl, rfl⟩
theorem p25_4 : fp_ "GoodHalfEmpty$Sort" "<init>" 25 4 := fun q h => by cases h; exact Or.inr ⟨rfl, rfl⟩
theorem p25_5 : fp_ "GoodHalfEmpty$Sort" "<init>" 25 5 := fun q h => by cases h; exact Or.inr ⟨rfl, rfl⟩
theorem p26_0 : fp_ "GoodHalfEmpty$Told" "<init>" 26 0 := fun q h => by cases h; exact Or.inr ⟨rfl, rfl⟩
theorem p26_1 : fp_ "GoodHalfEmpty$RuleTold" "<init>" 26 1 := fun q h => by cases h; exact Or.inr ⟨rfl, rfl⟩
theorem p26_2 : fp_ "GoodHalfEmpty$RuleTold" "<init>" 26 2 := fun q h => by cases h; exact Or.inr ⟨rfl, rfl⟩
abbrev hJ0_init : Cond := .code yJ0_init cJ0_init 1 none
theorem lcJ0_init : lc_ yJ0_init hJ0_init 1 0 := ⟨q422, q93, by decide +kernel, by decide +kernel, hc_code⟩
abbrev hJ1_init : Cond := .code yJ1_init cJ1_init 1 none
theorem lcJ1_init : lc_ yJ1_init hJ1_init 1 0 := ⟨q449, q94, by decide +kernel, by decide +kernel, hc_code⟩
abbrev hJ2_init : Cond := .code yJ2_init cJ2_init 1 none
theorem lcJ2_init : lc_ yJ2_init hJ2_init 1 0 := ⟨q446, q95, by decide +kernel, by decide +kernel, hc_code⟩
abbrev hJ3_max : Cond := .code yJ3_max cJ3_max 2 (some .int)
theorem lcJ3_max : lc_ yJ3_max hJ3_max 2 2 := ⟨q778, q107, by decide +kernel, by decide +kernel, hc_code⟩
abbrev hJ3_min : Cond := .code yJ3_min cJ3_min 2 (some .int)
theorem lcJ3_min : lc_ yJ3_min hJ3_min 2 2 := ⟨q674, q107, by decide +kernel, by decide +kernel, hc_code⟩
abbrev hJ4_init : Cond := .code yJ4_init cJ4_init 1 none
abbrev hX0_act : Cond := .codeWith yX0_act cX0_act 5 (some .int) [(0, 7, 8, 290)]
theorem lcX0_act : lc_ yX0_act hX0_act 5 3 := ⟨q376, q76, by decide +kernel, by decide +kernel, hc_codeW⟩
abbrev hX0_actFar : Cond := .codeWith yX0_actFar cX0_actFar 5 (some .int) [(0, 7, 8, 290)]
theorem lcX0_actFar : lc_ yX0_actFar hX0_actFar 5 3 := ⟨q1042, q76, by decide +kernel, by decide +kernel, hc_codeW⟩
abbrev hX0_after : Cond := .code yX0_after cX0_after 2 (some .int)
theorem lcX0_after : lc_ yX0_after hX0_after 2 1 := ⟨q1047, q76, by decide +kernel, by decide +kernel, hc_code⟩
abbrev hX0_afterWeeks : Cond := .code yX0_afterWeeks cX0_afterWeeks 5 (some .int)
theorem lcX0_afterWeeks : lc_ yX0_afterWeeks hX0_afterWeeks 5 1 := ⟨q894, q76, by decide +kernel, by decide +kernel, hc_code⟩
abbrev hX0_again : Cond := .code yX0_again cX0_again 1 (some .int)
theorem lcX0_again : lc_ yX0_again hX0_again 1 0 := ⟨q1063, q76, by decide +kernel, by decide +kernel, hc_code⟩
abbrev hX0_againBehind : Cond := .code yX0_againBehind cX0_againBehind 4 (some .int)
theorem lcX0_againBehind : lc_ yX0_againBehind hX0_againBehind 4 0 := ⟨q902, q76, by decide +kernel, by decide +kernel, hc_code⟩
abbrev hX0_best : Cond := .code yX0_best cX0_best 2 (some .int)
theorem lcX0_best : lc_ yX0_best hX0_best 2 1 := ⟨q1079, q76, by decide +kernel, by decide +kernel, hc_code⟩
abbrev hX0_bestChairs : Cond := .code yX0_bestChairs cX0_bestChairs 6 (some .int)
theorem lcX0_bestChairs : lc_ yX0_bestChairs hX0_bestChairs 6 0 := ⟨q989, q76, by decide +kernel, by decide +kernel, hc_code⟩
abbrev hX0_bestPenny : Cond := .code yX0_bestPenny cX0_bestPenny 6 (some .int)
theorem lcX0_bestPenny : lc_ yX0_bestPenny hX0_bestPenny 6 0 := ⟨q985, q76, by decide +kernel, by decide +kernel, hc_code⟩
abbrev hX0_bestTold : Cond := .code yX0_bestTold cX0_bestTold 2 (some .int)
theorem lcX0_bestTold : lc_ yX0_bestTold hX0_bestTold 2 1 := ⟨q981, q76, by decide +kernel, by decide +kernel, hc_code⟩
abbrev hX0_bySeeds : Cond := .code yX0_bySeeds cX0_bySeeds 8 (some .int)
theorem lcX0_bySeeds : lc_ yX0_bySeeds hX0_bySeeds 8 2 := ⟨q934, q76, by decide +kernel, by decide +kernel, hc_code⟩
abbrev hX0_chairs : Cond := .code yX0_chairs cX0_chairs 1 (some .int)
theorem lcX0_chairs : lc_ yX0_chairs hX0_chairs 1 0 := ⟨q1091, q76, by decide +kernel, by decide +kernel, hc_code⟩
abbrev hX0_count : Cond := .code yX0_count cX0_count 2 (some .int)
theorem lcX0_count : lc_ yX0_count hX0_count 2 1 := ⟨q1137, q76, by decide +kernel, by decide +kernel, hc_code⟩
abbrev hX0_doIt : Cond := .code yX0_doIt cX0_doIt 4 (some .int)
theorem lcX0_doIt : lc_ yX0_doIt hX0_doIt 4 3 := ⟨q381, q76, by decide +kernel, by decide +kernel, hc_code⟩
abbrev hX0_doesRest : Cond := .code yX0_doesRest cX0_doesRest 6 (some .boolean)
theorem lcX0_doesRest : lc_ yX0_doesRest hX0_doesRest 6 2 := ⟨q964, q76, by decide +kernel, by decide +kernel, hc_code⟩
abbrev hX0_findPlans : Cond := .code yX0_findPlans cX0_findPlans 6 none
theorem lcX0_findPlans : lc_ yX0_findPlans hX0_findPlans 6 1 := ⟨q951, q76, by decide +kernel, by decide +kernel, hc_code⟩
abbrev hX0_gains : Cond := .code yX0_gains cX0_gains 3 (some .int)
theorem lcX0_gains : lc_ yX0_gains hX0_gains 3 2 := ⟨q1067, q76, by decide +kernel, by decide +kernel, hc_code⟩
abbrev hX0_gainsOf : Cond := .code yX0_gainsOf cX0_gainsOf 7 (some .int)
theorem lcX0_gainsOf : lc_ yX0_gainsOf hX0_gainsOf 7 3 := ⟨q906, q76, by decide +kernel, by decide +kernel, hc_code⟩
abbrev hX0_gainsOfSeer : Cond := .code yX0_gainsOfSeer cX0_gainsOfSeer 6 (some .int)
theorem lcX0_gainsOfSeer : lc_ yX0_gainsOfSeer hX0_gainsOfSeer 6 4 := ⟨q1103, q76, by decide +kernel, by decide +kernel, hc_code⟩
abbrev hX0_goes : Cond := .code yX0_goes cX0_goes 2 (some .int)
theorem lcX0_goes : lc_ yX0_goes hX0_goes 2 1 := ⟨q1034, q76, by decide +kernel, by decide +kernel, hc_code⟩
abbrev hX0_goesNext : Cond := .code yX0_goesNext cX0_goesNext 2 (some .int)
theorem lcX0_goesNext : lc_ yX0_goesNext hX0_goesNext 2 1 := ⟨q870, q76, by decide +kernel, by decide +kernel, hc_code⟩
abbrev hX0_good : Cond := .code yX0_good cX0_good 2 (some .int)
theorem lcX0_good : lc_ yX0_good hX0_good 2 1 := ⟨q1059, q76, by decide +kernel, by decide +kernel, hc_code⟩
abbrev hX0_image : Cond := .code yX0_image cX0_image 1 (some .int)
theorem lcX0_image : lc_ yX0_image hX0_image 1 0 := ⟨q1129, q76, by decide +kernel, by decide +kernel, hc_code⟩
abbrev hX0_in : Cond := .code yX0_in cX0_in 6 (some .boolean)
theorem lcX0_in : lc_ yX0_in hX0_in 6 3 := ⟨q534, q76, by decide +kernel, by decide +kernel, hc_code⟩
abbrev hX0_init : Cond := .code yX0_init cX0_init 1 none
theorem lcX0_init : lc_ yX0_init hX0_init 1 0 := ⟨q112, q76, by decide +kernel, by decide +kernel, hc_code⟩
abbrev hX0_judge : Cond := .code yX0_judge cX0_judge 1 (some .int)
theorem lcX0_judge : lc_ yX0_judge hX0_judge 1 0 := ⟨q1125, q76, by decide +kernel, by decide +kernel, hc_code⟩
abbrev hX0_judgeRow : Cond := .code yX0_judgeRow cX0_judgeRow 4 (some .int)
theorem lcX0_judgeRow : lc_ yX0_judgeRow hX0_judgeRow 4 0 := ⟨q943, q76, by decide +kernel, by decide +kernel, hc_code⟩
abbrev hX0_keepRest : Cond := .code yX0_keepRest cX0_keepRest 3 none
theorem lcX0_keepRest : lc_ yX0_keepRest hX0_keepRest 3 2 := ⟨q968, q76, by decide +kernel, by decide +kernel, hc_code⟩
abbrev hX0_letter : Cond := .code yX0_letter cX0_letter 2 (some .int)
theorem lcX0_letter : lc_ yX0_letter hX0_letter 2 1 := ⟨q372, q76, by decide +kernel, by decide +kernel, hc_code⟩
abbrev hX0_letterIt : Cond := .code yX0_letterIt cX0_letterIt 2 (some .int)
theorem lcX0_letterIt : lc_ yX0_letterIt hX0_letterIt 2 1 := ⟨q389, q76, by decide +kernel, by decide +kernel, hc_code⟩
abbrev hX0_longer : Cond := .code yX0_longer cX0_longer 2 (some .int)
theorem lcX0_longer : lc_ yX0_longer hX0_longer 2 1 := ⟨q1113, q76, by decide +kernel, by decide +kernel, hc_code⟩
abbrev hX0_look : Cond := .code yX0_look cX0_look 5 none
theorem lcX0_look : lc_ yX0_look hX0_look 5 2 := ⟨q914, q76, by decide +kernel, by decide +kernel, hc_code⟩
abbrev hX0_lookTold : Cond := .code yX0_lookTold cX0_lookTold 3 (some .int)
theorem lcX0_lookTold : lc_ yX0_lookTold hX0_lookTold 3 2 := ⟨q910, q76, by decide +kernel, by decide +kernel, hc_code⟩
abbrev hX0_mean : Cond := .code yX0_mean cX0_mean 2 (some .int)
theorem lcX0_mean : lc_ yX0_mean hX0_mean 2 1 := ⟨q1051, q76, by decide +kernel, by decide +kernel, hc_code⟩
abbrev hX0_mostRight : Cond := .code yX0_mostRight cX0_mostRight 8 (some .int)
theorem lcX0_mostRight : lc_ yX0_mostRight hX0_mostRight 8 1 := ⟨q924, q76, by decide +kernel, by decide +kernel, hc_code⟩
abbrev hX0_must : Cond := .code yX0_must cX0_must 2 none
theorem lcX0_must : lc_ yX0_must hX0_must 2 2 := ⟨q396, q76, by decide +kernel, by decide +kernel, hc_code⟩
abbrev hX0_mustBe : Cond := .code yX0_mustBe cX0_mustBe 2 none
theorem lcX0_mustBe : lc_ yX0_mustBe hX0_mustBe 2 2 := ⟨q709, q76, by decide +kernel, by decide +kernel, hc_code⟩
abbrev hX0_mustBeSort : Cond := .code yX0_mustBeSort cX0_mustBeSort 2 none
theorem lcX0_mustBeSort : lc_ yX0_mustBeSort hX0_mustBeSort 2 1 := ⟨q706, q76, by decide +kernel, by decide +kernel, hc_code⟩
abbrev hX0_mustBeWeeks : Cond := .code yX0_mustBeWeeks cX0_mustBeWeeks 1 none
theorem lcX0_mustBeWeeks : lc_ yX0_mustBeWeeks hX0_mustBeWeeks 1 1 := ⟨q889, q76, by decide +kernel, by decide +kernel, hc_code⟩
abbrev hX0_next : Cond := .code yX0_next cX0_next 1 (some .int)
theorem lcX0_next : lc_ yX0_next hX0_next 1 0 := ⟨q1030, q76, by decide +kernel, by decide +kernel, hc_code⟩
abbrev hX0_nextPlan : Cond := .code yX0_nextPlan cX0_nextPlan 2 (some .boolean)
theorem lcX0_nextPlan : lc_ yX0_nextPlan hX0_nextPlan 2 0 := ⟨q973, q76, by decide +kernel, by decide +kernel, hc_code⟩
abbrev hX0_ofPlans : Cond := .code yX0_ofPlans cX0_ofPlans 3 (some .int)
theorem lcX0_ofPlans : lc_ yX0_ofPlans hX0_ofPlans 3 2 := ⟨q947, q76, by decide +kernel, by decide +kernel, hc_code⟩
abbrev hX0_ofRest : Cond := .code yX0_ofRest cX0_ofRest 4 (some .int)
theorem lcX0_ofRest : lc_ yX0_ofRest hX0_ofRest 4 3 := ⟨q920, q76, by decide +kernel, by decide +kernel, hc_code⟩
abbrev hX0_ofTown : Cond := .code yX0_ofTown cX0_ofTown 5 (some .int)
theorem lcX0_ofTown : lc_ yX0_ofTown hX0_ofTown 5 3 := ⟨q385, q76, by decide +kernel, by decide +kernel, hc_code⟩
abbrev hX0_ofWeeks : Cond := .code yX0_ofWeeks cX0_ofWeeks 4 (some .int)
theorem lcX0_ofWeeks : lc_ yX0_ofWeeks hX0_ofWeeks 4 3 := ⟨q886, q76, by decide +kernel, by decide +kernel, hc_code⟩
abbrev hX0_off : Cond := .code yX0_off cX0_off 1 (some .int)
theorem lcX0_off : lc_ yX0_off hX0_off 1 0 := ⟨q1083, q76, by decide +kernel, by decide +kernel, hc_code⟩
abbrev hX0_on : Cond := .code yX0_on cX0_on 1 (some .int)
theorem lcX0_on : lc_ yX0_on hX0_on 1 0 := ⟨q1133, q76, by decide +kernel, by decide +kernel, hc_code⟩
abbrev hX0_openMind : Cond := .code yX0_openMind cX0_openMind 1 (some (.object "GoodHalfEmpty$Town"))
theorem lcX0_openMind : lc_ yX0_openMind hX0_openMind 1 0 := ⟨q898, q76, by decide +kernel, by decide +kernel, hc_code⟩
abbrev hX0_pennies : Cond := .code yX0_pennies cX0_pennies 1 (some .int)
theorem lcX0_pennies : lc_ yX0_pennies hX0_pennies 1 0 := ⟨q1087, q76, by decide +kernel, by decide +kernel, hc_code⟩
abbrev hX0_penny : Cond := .code yX0_penny cX0_penny 2 (some .int)
theorem lcX0_penny : lc_ yX0_penny hX0_penny 2 1 := ⟨q1022, q76, by decide +kernel, by decide +kernel, hc_code⟩
abbrev hX0_presentOf : Cond := .code yX0_presentOf cX0_presentOf 3 (some .int)
theorem lcX0_presentOf : lc_ yX0_presentOf hX0_presentOf 3 0 := ⟨q955, q76, by decide +kernel, by decide +kernel, hc_code⟩
abbrev hX0_readTown : Cond := .code yX0_readTown cX0_readTown 5 (some .int)
theorem lcX0_readTown : lc_ yX0_readTown hX0_readTown 5 0 := ⟨q469, q76, by decide +kernel, by decide +kernel, hc_code⟩
abbrev hX0_refuse : Cond := .code yX0_refuse cX0_refuse 2 (some .int)
theorem lcX0_refuse : lc_ yX0_refuse hX0_refuse 2 1 := ⟨q1002, q76, by decide +kernel, by decide +kernel, hc_code⟩
abbrev hX0_remembered : Cond := .code yX0_remembered cX0_remembered 2 (some .int)
theorem lcX0_remembered : lc_ yX0_remembered hX0_remembered 2 1 := ⟨q1018, q76, by decide +kernel, by decide +kernel, hc_code⟩
abbrev hX0_rest : Cond := .code yX0_rest cX0_rest 2 (some .int)
theorem lcX0_rest : lc_ yX0_rest hX0_rest 2 1 := ⟨q1075, q76, by decide +kernel, by decide +kernel, hc_code⟩
abbrev hX0_restTold : Cond := .code yX0_restTold cX0_restTold 2 (some .int)
theorem lcX0_restTold : lc_ yX0_restTold hX0_restTold 2 1 := ⟨q977, q76, by decide +kernel, by decide +kernel, hc_code⟩
abbrev hX0_rests : Cond := .code yX0_rests cX0_rests 1 (some .int)
theorem lcX0_rests : lc_ yX0_rests hX0_rests 1 0 := ⟨q1071, q76, by decide +kernel, by decide +kernel, hc_code⟩
abbrev hX0_row : Cond := .code yX0_row cX0_row 2 (some .int)
theorem lcX0_row : lc_ yX0_row hX0_row 2 1 := ⟨q1121, q76, by decide +kernel, by decide +kernel, hc_code⟩
abbrev hX0_rule : Cond := .code yX0_rule cX0_rule 3 (some .int)
theorem lcX0_rule : lc_ yX0_rule hX0_rule 3 2 := ⟨q1014, q76, by decide +kernel, by decide +kernel, hc_code⟩
abbrev hX0_ruleTold : Cond := .code yX0_ruleTold cX0_ruleTold 3 (some .int)
theorem lcX0_ruleTold : lc_ yX0_ruleTold hX0_ruleTold 3 2 := ⟨q736, q76, by decide +kernel, by decide +kernel, hc_code⟩
abbrev hX0_seeds : Cond := .code yX0_seeds cX0_seeds 3 (some .int)
theorem lcX0_seeds : lc_ yX0_seeds hX0_seeds 3 2 := ⟨q1117, q76, by decide +kernel, by decide +kernel, hc_code⟩
abbrev hX0_sees : Cond := .code yX0_sees cX0_sees 5 (some .int)
theorem lcX0_sees : lc_ yX0_sees hX0_sees 5 4 := ⟨q1095, q76, by decide +kernel, by decide +kernel, hc_code⟩
abbrev hX0_seesTold : Cond := .codeWith yX0_seesTold cX0_seesTold 6 (some .int) [(0, 83, 84, 290)]
theorem lcX0_seesTold : lc_ yX0_seesTold hX0_seesTold 6 4 := ⟨q1099, q76, by decide +kernel, by decide +kernel, hc_codeW⟩
abbrev hX0_sort : Cond := .code yX0_sort cX0_sort 3 (some .int)
theorem lcX0_sort : lc_ yX0_sort hX0_sort 3 2 := ⟨q1010, q76, by decide +kernel, by decide +kernel, hc_code⟩
abbrev hX0_sortTold : Cond := .code yX0_sortTold cX0_sortTold 4 (some .int)
theorem lcX0_sortTold : lc_ yX0_sortTold hX0_sortTold 4 2 := ⟨q702, q76, by decide +kernel, by decide +kernel, hc_code⟩
abbrev hX0_swing : Cond := .code yX0_swing cX0_swing 2 (some .int)
theorem lcX0_swing : lc_ yX0_swing hX0_swing 2 1 := ⟨q1055, q76, by decide +kernel, by decide +kernel, hc_code⟩
abbrev hX0_swingOfLonger : Cond := .code yX0_swingOfLonger cX0_swingOfLonger 4 (some .int)
theorem lcX0_swingOfLonger : lc_ yX0_swingOfLonger hX0_swingOfLonger 4 1 := ⟨q929, q76, by decide +kernel, by decide +kernel, hc_code⟩
abbrev hX0_town : Cond := .code yX0_town cX0_town 1 (some .int)
theorem lcX0_town : lc_ yX0_town hX0_town 1 0 := ⟨q1006, q76, by decide +kernel, by decide +kernel, hc_code⟩
abbrev hX0_week : Cond := .code yX0_week cX0_week 1 (some .int)
theorem lcX0_week : lc_ yX0_week hX0_week 1 0 := ⟨q1026, q76, by decide +kernel, by decide +kernel, hc_code⟩
abbrev hX0_which : Cond := .code yX0_which cX0_which 2 (some .int)
theorem lcX0_which : lc_ yX0_which hX0_which 2 1 := ⟨q1109, q76, by decide +kernel, by decide +kernel, hc_code⟩
abbrev hX0_within : Cond := .code yX0_within cX0_within 6 none
theorem lcX0_within : lc_ yX0_within hX0_within 6 3 := ⟨q393, q76, by decide +kernel, by decide +kernel, hc_code⟩
abbrev hX0_worth : Cond := .code yX0_worth cX0_worth 2 (some .int)
theorem lcX0_worth : lc_ yX0_worth hX0_worth 2 1 := ⟨q1038, q76, by decide +kernel, by decide +kernel, hc_code⟩
abbrev hX0_worthNext : Cond := .code yX0_worthNext cX0_worthNext 5 (some .int)
theorem lcX0_worthNext : lc_ yX0_worthNext hX0_worthNext 5 1 := ⟨q874, q76, by decide +kernel, by decide +kernel, hc_code⟩
abbrev hX0_worthOfPlan : Cond := .code yX0_worthOfPlan cX0_worthOfPlan 6 (some .int)
theorem lcX0_worthOfPlan : lc_ yX0_worthOfPlan hX0_worthOfPlan 6 2 := ⟨q959, q76, by decide +kernel, by decide +kernel, hc_code⟩
abbrev hX10_goes : Cond := .code yX10_goes cX10_goes 3 (some .boolean)
theorem lcX10_goes : lc_ yX10_goes hX10_goes 3 2 := ⟨q857, q86, by decide +kernel, by decide +kernel, hc_code⟩
abbrev hX10_init : Cond := .code yX10_init cX10_init 1 none
theorem lcX10_init : lc_ yX10_init hX10_init 1 0 := ⟨q179, q86, by decide +kernel, by decide +kernel, hc_code⟩
abbrev hX10_kind : Cond := .code yX10_kind cX10_kind 1 (some .int)
theorem lcX10_kind : lc_ yX10_kind hX10_kind 1 0 := ⟨q723, q86, by decide +kernel, by decide +kernel, hc_code⟩
abbrev hX11_goes : Cond := .code yX11_goes cX11_goes 3 (some .boolean)
theorem lcX11_goes : lc_ yX11_goes hX11_goes 3 2 := ⟨q844, q87, by decide +kernel, by decide +kernel, hc_code⟩
abbrev hX11_hasRule : Cond := .code yX11_hasRule cX11_hasRule 1 (some .boolean)
theorem lcX11_hasRule : lc_ yX11_hasRule hX11_hasRule 1 0 := ⟨q690, q87, by decide +kernel, by decide +kernel, hc_code⟩
abbrev hX11_init : Cond := .code yX11_init cX11_init 1 none
theorem lcX11_init : lc_ yX11_init hX11_init 1 0 := ⟨q186, q87, by decide +kernel, by decide +kernel, hc_code⟩
abbrev hX11_kind : Cond := .code yX11_kind cX11_kind 1 (some .int)
theorem lcX11_kind : lc_ yX11_kind hX11_kind 1 0 := ⟨q726, q87, by decide +kernel, by decide +kernel, hc_code⟩
abbrev hX11_ruleOf : Cond := .code yX11_ruleOf cX11_ruleOf 3 (some .int)
theorem lcX11_ruleOf : lc_ yX11_ruleOf hX11_ruleOf 3 2 := ⟨q853, q87, by decide +kernel, by decide +kernel, hc_code⟩
abbrev hX12_init : Cond := .code yX12_init cX12_init 1 none
theorem lcX12_init : lc_ yX12_init hX12_init 1 0 := ⟨q193, q88, by decide +kernel, by decide +kernel, hc_code⟩
abbrev hX12_kind : Cond := .code yX12_kind cX12_kind 1 (some .int)
theorem lcX12_kind : lc_ yX12_kind hX12_kind 1 0 := ⟨q720, q88, by decide +kernel, by decide +kernel, hc_code⟩
abbrev hX12_ruleOf : Cond := .code yX12_ruleOf cX12_ruleOf 5 (some .int)
theorem lcX12_ruleOf : lc_ yX12_ruleOf hX12_ruleOf 5 2 := ⟨q851, q88, by decide +kernel, by decide +kernel, hc_code⟩
abbrev hX13_goes : Cond := .code yX13_goes cX13_goes 3 (some .boolean)
theorem lcX13_goes : lc_ yX13_goes hX13_goes 3 2 := ⟨q864, q89, by decide +kernel, by decide +kernel, hc_code⟩
abbrev hX13_init : Cond := .code yX13_init cX13_init 1 none
theorem lcX13_init : lc_ yX13_init hX13_init 1 0 := ⟨q200, q89, by decide +kernel, by decide +kernel, hc_code⟩
abbrev hX13_kind : Cond := .code yX13_kind cX13_kind 1 (some .int)
theorem lcX13_kind : lc_ yX13_kind hX13_kind 1 0 := ⟨q732, q89, by decide +kernel, by decide +kernel, hc_code⟩
abbrev hX14_goes : Cond := .code yX14_goes cX14_goes 3 (some .boolean)
theorem lcX14_goes : lc_ yX14_goes hX14_goes 3 2 := ⟨q861, q90, by decide +kernel, by decide +kernel, hc_code⟩
abbrev hX14_init : Cond := .code yX14_init cX14_init 1 none
theorem lcX14_init : lc_ yX14_init hX14_init 1 0 := ⟨q207, q90, by decide +kernel, by decide +kernel, hc_code⟩
abbrev hX14_isLast : Cond := .code yX14_isLast cX14_isLast 1 (some .boolean)
theorem lcX14_isLast : lc_ yX14_isLast hX14_isLast 1 0 := ⟨q833, q90, by decide +kernel, by decide +kernel, hc_code⟩
abbrev hX14_kind : Cond := .code yX14_kind cX14_kind 1 (some .int)
theorem lcX14_kind : lc_ yX14_kind hX14_kind 1 0 := ⟨q729, q90, by decide +kernel, by decide +kernel, hc_code⟩
abbrev hX15_ago : Cond := .code yX15_ago cX15_ago 2 (some .int)
theorem lcX15_ago : lc_ yX15_ago hX15_ago 2 1 := ⟨q775, q91, by decide +kernel, by decide +kernel, hc_code⟩
abbrev hX15_ask : Cond := .code yX15_ask cX15_ask 3 none
theorem lcX15_ask : lc_ yX15_ask hX15_ask 3 1 := ⟨q823, q91, by decide +kernel, by decide +kernel, hc_code⟩
abbrev hX15_askAll : Cond := .code yX15_askAll cX15_askAll 1 (some .int)
theorem lcX15_askAll : lc_ yX15_askAll hX15_askAll 1 0 := ⟨q819, q91, by decide +kernel, by decide +kernel, hc_code⟩
abbrev hX15_foretold : Cond := .code yX15_foretold cX15_foretold 2 (some .int)
theorem lcX15_foretold : lc_ yX15_foretold hX15_foretold 2 1 := ⟨q762, q91, by decide +kernel, by decide +kernel, hc_code⟩
abbrev hX15_init : Cond := .code yX15_init cX15_init 1 none
theorem lcX15_init : lc_ yX15_init hX15_init 1 0 := ⟨q214, q91, by decide +kernel, by decide +kernel, hc_code⟩
abbrev hX15_people : Cond := .code yX15_people cX15_people 3 (some .int)
theorem lcX15_people : lc_ yX15_people hX15_people 3 0 := ⟨q796, q91, by decide +kernel, by decide +kernel, hc_code⟩
abbrev hX15_remember : Cond := .code yX15_remember cX15_remember 3 none
theorem lcX15_remember : lc_ yX15_remember hX15_remember 3 1 := ⟨q671, q91, by decide +kernel, by decide +kernel, hc_code⟩
abbrev hX15_set : Cond := .code yX15_set cX15_set 2 none
theorem lcX15_set : lc_ yX15_set hX15_set 2 1 := ⟨q651, q91, by decide +kernel, by decide +kernel, hc_code⟩
abbrev hX15_week : Cond := .code yX15_week cX15_week 3 (some .int)
theorem lcX15_week : lc_ yX15_week hX15_week 3 0 := ⟨q814, q91, by decide +kernel, by decide +kernel, hc_code⟩
abbrev hX15_worth : Cond := .code yX15_worth cX15_worth 3 (some .int)
theorem lcX15_worth : lc_ yX15_worth hX15_worth 3 2 := ⟨q878, q91, by decide +kernel, by decide +kernel, hc_code⟩
abbrev hX15_worthOfGoing : Cond := .code yX15_worthOfGoing cX15_worthOfGoing 3 (some .int)
theorem lcX15_worthOfGoing : lc_ yX15_worthOfGoing hX15_worthOfGoing 3 2 := ⟨q882, q91, by decide +kernel, by decide +kernel, hc_code⟩
abbrev hX16_after : Cond := .code yX16_after cX16_after 2 (some .int)
theorem lcX16_after : lc_ yX16_after hX16_after 2 1 := ⟨q1364, q92, by decide +kernel, by decide +kernel, hc_code⟩
abbrev hX16_again : Cond := .code yX16_again cX16_again 4 (some .int)
theorem lcX16_again : lc_ yX16_again hX16_again 4 0 := ⟨q1393, q92, by decide +kernel, by decide +kernel, hc_code⟩
abbrev hX16_ago : Cond := .code yX16_ago cX16_ago 2 (some .int)
theorem lcX16_ago : lc_ yX16_ago hX16_ago 2 1 := ⟨q1306, q92, by decide +kernel, by decide +kernel, hc_code⟩
abbrev hX16_begin : Cond := .code yX16_begin cX16_begin 2 none
theorem lcX16_begin : lc_ yX16_begin hX16_begin 2 0 := ⟨q1409, q92, by decide +kernel, by decide +kernel, hc_code⟩
abbrev hX16_best : Cond := .code yX16_best cX16_best 2 (some .int)
theorem lcX16_best : lc_ yX16_best hX16_best 2 1 := ⟨q1425, q92, by decide +kernel, by decide +kernel, hc_code⟩
abbrev hX16_chairs : Cond := .code yX16_chairs cX16_chairs 5 (some .int)
theorem lcX16_chairs : lc_ yX16_chairs hX16_chairs 5 0 := ⟨q1437, q92, by decide +kernel, by decide +kernel, hc_code⟩
abbrev hX16_come : Cond := .code yX16_come cX16_come 2 none
theorem lcX16_come : lc_ yX16_come hX16_come 2 0 := ⟨q1278, q92, by decide +kernel, by decide +kernel, hc_code⟩
abbrev hX16_count : Cond := .code yX16_count cX16_count 2 (some .int)
theorem lcX16_count : lc_ yX16_count hX16_count 2 1 := ⟨q1468, q92, by decide +kernel, by decide +kernel, hc_code⟩
abbrev hX16_expect : Cond := .code yX16_expect cX16_expect 2 none
theorem lcX16_expect : lc_ yX16_expect hX16_expect 2 1 := ⟨q1270, q92, by decide +kernel, by decide +kernel, hc_code⟩
abbrev hX16_figures : Cond := .code yX16_figures cX16_figures 4 (some .int)
theorem lcX16_figures : lc_ yX16_figures hX16_figures 4 1 := ⟨q1266, q92, by decide +kernel, by decide +kernel, hc_code⟩
abbrev hX16_foretold : Cond := .code yX16_foretold cX16_foretold 5 (some .int)
theorem lcX16_foretold : lc_ yX16_foretold hX16_foretold 5 2 := ⟨q1302, q92, by decide +kernel, by decide +kernel, hc_code⟩
abbrev hX16_gains : Cond := .code yX16_gains cX16_gains 3 (some .int)
theorem lcX16_gains : lc_ yX16_gains hX16_gains 3 2 := ⟨q1397, q92, by decide +kernel, by decide +kernel, hc_code⟩
abbrev hX16_goAhead : Cond := .code yX16_goAhead cX16_goAhead 6 (some .int)
theorem lcX16_goAhead : lc_ yX16_goAhead hX16_goAhead 6 2 := ⟨q1372, q92, by decide +kernel, by decide +kernel, hc_code⟩
abbrev hX16_goOn : Cond := .code yX16_goOn cX16_goOn 3 (some .int)
theorem lcX16_goOn : lc_ yX16_goOn hX16_goOn 3 0 := ⟨q1327, q92, by decide +kernel, by decide +kernel, hc_code⟩
abbrev hX16_goThrough : Cond := .code yX16_goThrough cX16_goThrough 4 none
theorem lcX16_goThrough : lc_ yX16_goThrough hX16_goThrough 4 0 := ⟨q1405, q92, by decide +kernel, by decide +kernel, hc_code⟩
abbrev hX16_goes : Cond := .code yX16_goes cX16_goes 2 (some .int)
theorem lcX16_goes : lc_ yX16_goes hX16_goes 2 1 := ⟨q1347, q92, by decide +kernel, by decide +kernel, hc_code⟩
abbrev hX16_good : Cond := .code yX16_good cX16_good 4 (some .int)
theorem lcX16_good : lc_ yX16_good hX16_good 4 1 := ⟨q1389, q92, by decide +kernel, by decide +kernel, hc_code⟩
abbrev hX16_hat : Cond := .code yX16_hat cX16_hat 4 (some .int)
theorem lcX16_hat : lc_ yX16_hat hX16_hat 4 1 := ⟨q1339, q92, by decide +kernel, by decide +kernel, hc_code⟩
abbrev hX16_image : Cond := .code yX16_image cX16_image 1 (some .int)
theorem lcX16_image : lc_ yX16_image hX16_image 1 0 := ⟨q1143, q92, by decide +kernel, by decide +kernel, hc_code⟩
abbrev hX16_init : Cond := .code yX16_init cX16_init 1 none
theorem lcX16_init : lc_ yX16_init hX16_init 1 0 := ⟨q1159, q92, by decide +kernel, by decide +kernel, hc_code⟩
abbrev hX16_isAsItMustBe : Cond := .code yX16_isAsItMustBe cX16_isAsItMustBe 3 (some .boolean)
theorem lcX16_isAsItMustBe : lc_ yX16_isAsItMustBe hX16_isAsItMustBe 3 2 := ⟨q1274, q92, by decide +kernel, by decide +kernel, hc_code⟩
abbrev hX16_isAtRest : Cond := .code yX16_isAtRest cX16_isAtRest 4 (some .boolean)
theorem lcX16_isAtRest : lc_ yX16_isAtRest hX16_isAtRest 4 1 := ⟨q1413, q92, by decide +kernel, by decide +kernel, hc_code⟩
abbrev hX16_isNextPlan : Cond := .code yX16_isNextPlan cX16_isNextPlan 2 (some .boolean)
theorem lcX16_isNextPlan : lc_ yX16_isNextPlan hX16_isNextPlan 2 0 := ⟨q1417, q92, by decide +kernel, by decide +kernel, hc_code⟩
abbrev hX16_isNoSort : Cond := .code yX16_isNoSort cX16_isNoSort 2 (some .boolean)
theorem lcX16_isNoSort : lc_ yX16_isNoSort hX16_isNoSort 2 1 := ⟨q1290, q92, by decide +kernel, by decide +kernel, hc_code⟩
abbrev hX16_isRoom : Cond := .code yX16_isRoom cX16_isRoom 2 (some .boolean)
theorem lcX16_isRoom : lc_ yX16_isRoom hX16_isRoom 2 1 := ⟨q1335, q92, by decide +kernel, by decide +kernel, hc_code⟩
abbrev hX16_isWrong : Cond := .code yX16_isWrong cX16_isWrong 3 (some .int)
theorem lcX16_isWrong : lc_ yX16_isWrong hX16_isWrong 3 2 := ⟨q1368, q92, by decide +kernel, by decide +kernel, hc_code⟩
abbrev hX16_judge : Cond := .code yX16_judge cX16_judge 3 (some .int)
theorem lcX16_judge : lc_ yX16_judge hX16_judge 3 0 := ⟨q1464, q92, by decide +kernel, by decide +kernel, hc_code⟩
abbrev hX16_letter : Cond := .code yX16_letter cX16_letter 2 (some .int)
theorem lcX16_letter : lc_ yX16_letter hX16_letter 2 1 := ⟨q1246, q92, by decide +kernel, by decide +kernel, hc_code⟩
abbrev hX16_longer : Cond := .code yX16_longer cX16_longer 3 (some .int)
theorem lcX16_longer : lc_ yX16_longer hX16_longer 3 1 := ⟨q1449, q92, by decide +kernel, by decide +kernel, hc_code⟩
abbrev hX16_mean : Cond := .code yX16_mean cX16_mean 4 (some .int)
theorem lcX16_mean : lc_ yX16_mean hX16_mean 4 1 := ⟨q1376, q92, by decide +kernel, by decide +kernel, hc_code⟩
abbrev hX16_move : Cond := .code yX16_move cX16_move 3 none
theorem lcX16_move : lc_ yX16_move hX16_move 3 2 := ⟨q1146, q92, by decide +kernel, by decide +kernel, hc_code⟩
abbrev hX16_next : Cond := .code yX16_next cX16_next 1 (some .int)
theorem lcX16_next : lc_ yX16_next hX16_next 1 0 := ⟨q1343, q92, by decide +kernel, by decide +kernel, hc_code⟩
abbrev hX16_no : Cond := .code yX16_no cX16_no 2 (some .int)
theorem lcX16_no : lc_ yX16_no hX16_no 2 1 := ⟨q1155, q92, by decide +kernel, by decide +kernel, hc_code⟩
abbrev hX16_of : Cond := .code yX16_of cX16_of 3 (some .int)
theorem lcX16_of : lc_ yX16_of hX16_of 3 2 := ⟨q1294, q92, by decide +kernel, by decide +kernel, hc_code⟩
abbrev hX16_off : Cond := .code yX16_off cX16_off 1 (some .int)
theorem lcX16_off : lc_ yX16_off hX16_off 1 0 := ⟨q1429, q92, by decide +kernel, by decide +kernel, hc_code⟩
abbrev hX16_on : Cond := .code yX16_on cX16_on 1 (some .int)
theorem lcX16_on : lc_ yX16_on hX16_on 1 0 := ⟨q1150, q92, by decide +kernel, by decide +kernel, hc_code⟩
abbrev hX16_oneOf : Cond := .code yX16_oneOf cX16_oneOf 4 (some .int)
theorem lcX16_oneOf : lc_ yX16_oneOf hX16_oneOf 4 1 := ⟨q1262, q92, by decide +kernel, by decide +kernel, hc_code⟩
abbrev hX16_pennies : Cond := .code yX16_pennies cX16_pennies 5 (some .int)
theorem lcX16_pennies : lc_ yX16_pennies hX16_pennies 5 0 := ⟨q1433, q92, by decide +kernel, by decide +kernel, hc_code⟩
abbrev hX16_penny : Cond := .code yX16_penny cX16_penny 3 (some .int)
theorem lcX16_penny : lc_ yX16_penny hX16_penny 3 1 := ⟨q1319, q92, by decide +kernel, by decide +kernel, hc_code⟩
abbrev hX16_people : Cond := .code yX16_people cX16_people 3 (some .int)
theorem lcX16_people : lc_ yX16_people hX16_people 3 0 := ⟨q1310, q92, by decide +kernel, by decide +kernel, hc_code⟩
abbrev hX16_present : Cond := .code yX16_present cX16_present 4 (some .int)
theorem lcX16_present : lc_ yX16_present hX16_present 4 0 := ⟨q1331, q92, by decide +kernel, by decide +kernel, hc_code⟩
abbrev hX16_read : Cond := .code yX16_read cX16_read 5 (some .int)
theorem lcX16_read : lc_ yX16_read hX16_read 5 0 := ⟨q1254, q92, by decide +kernel, by decide +kernel, hc_code⟩
abbrev hX16_remember : Cond := .code yX16_remember cX16_remember 3 none
theorem lcX16_remember : lc_ yX16_remember hX16_remember 3 1 := ⟨q1282, q92, by decide +kernel, by decide +kernel, hc_code⟩
abbrev hX16_remembered : Cond := .code yX16_remembered cX16_remembered 2 (some .int)
theorem lcX16_remembered : lc_ yX16_remembered hX16_remembered 2 1 := ⟨q1315, q92, by decide +kernel, by decide +kernel, hc_code⟩
abbrev hX16_rest : Cond := .code yX16_rest cX16_rest 2 (some .int)
theorem lcX16_rest : lc_ yX16_rest hX16_rest 2 1 := ⟨q1421, q92, by decide +kernel, by decide +kernel, hc_code⟩
abbrev hX16_rests : Cond := .code yX16_rests cX16_rests 1 (some .int)
theorem lcX16_rests : lc_ yX16_rests hX16_rests 1 0 := ⟨q1401, q92, by decide +kernel, by decide +kernel, hc_code⟩
abbrev hX16_row : Cond := .code yX16_row cX16_row 2 (some .int)
theorem lcX16_row : lc_ yX16_row hX16_row 2 1 := ⟨q1460, q92, by decide +kernel, by decide +kernel, hc_code⟩
abbrev hX16_rule : Cond := .code yX16_rule cX16_rule 3 (some .int)
theorem lcX16_rule : lc_ yX16_rule hX16_rule 3 2 := ⟨q1298, q92, by decide +kernel, by decide +kernel, hc_code⟩
abbrev hX16_seeds : Cond := .code yX16_seeds cX16_seeds 7 (some .int)
theorem lcX16_seeds : lc_ yX16_seeds hX16_seeds 7 2 := ⟨q1453, q92, by decide +kernel, by decide +kernel, hc_code⟩
abbrev hX16_sees : Cond := .code yX16_sees cX16_sees 7 (some .int)
theorem lcX16_sees : lc_ yX16_sees hX16_sees 7 4 := ⟨q1441, q92, by decide +kernel, by decide +kernel, hc_code⟩
abbrev hX16_sort : Cond := .code yX16_sort cX16_sort 3 (some .int)
theorem lcX16_sort : lc_ yX16_sort hX16_sort 3 2 := ⟨q1286, q92, by decide +kernel, by decide +kernel, hc_code⟩
abbrev hX16_statement : Cond := .code yX16_statement cX16_statement 1 none
theorem lcX16_statement : lc_ yX16_statement hX16_statement 1 0 := ⟨q1258, q92, by decide +kernel, by decide +kernel, hc_code⟩
abbrev hX16_swing : Cond := .code yX16_swing cX16_swing 2 (some .int)
theorem lcX16_swing : lc_ yX16_swing hX16_swing 2 1 := ⟨q1380, q92, by decide +kernel, by decide +kernel, hc_code⟩
abbrev hX16_swungIn : Cond := .code yX16_swungIn cX16_swungIn 5 (some .int)
theorem lcX16_swungIn : lc_ yX16_swungIn hX16_swungIn 5 1 := ⟨q1384, q92, by decide +kernel, by decide +kernel, hc_code⟩
abbrev hX16_town : Cond := .code yX16_town cX16_town 2 (some .int)
theorem lcX16_town : lc_ yX16_town hX16_town 2 0 := ⟨q1250, q92, by decide +kernel, by decide +kernel, hc_code⟩
abbrev hX16_week : Cond := .code yX16_week cX16_week 1 (some .int)
theorem lcX16_week : lc_ yX16_week hX16_week 1 0 := ⟨q1323, q92, by decide +kernel, by decide +kernel, hc_code⟩
abbrev hX16_which : Cond := .code yX16_which cX16_which 9 (some .int)
theorem lcX16_which : lc_ yX16_which hX16_which 9 1 := ⟨q1445, q92, by decide +kernel, by decide +kernel, hc_code⟩
abbrev hX16_worth : Cond := .code yX16_worth cX16_worth 5 (some .int)
theorem lcX16_worth : lc_ yX16_worth hX16_worth 5 1 := ⟨q1351, q92, by decide +kernel, by decide +kernel, hc_code⟩
abbrev hX16_worthGone : Cond := .code yX16_worthGone cX16_worthGone 3 (some .int)
theorem lcX16_worthGone : lc_ yX16_worthGone hX16_worthGone 3 2 := ⟨q1360, q92, by decide +kernel, by decide +kernel, hc_code⟩
abbrev hX16_worthNext : Cond := .code yX16_worthNext cX16_worthNext 3 (some .int)
theorem lcX16_worthNext : lc_ yX16_worthNext hX16_worthNext 3 2 := ⟨q1356, q92, by decide +kernel, by decide +kernel, hc_code⟩
abbrev hX17_init : Cond := .code yX17_init cX17_init 1 none
theorem lcX17_init : lc_ yX17_init hX17_init 1 0 := ⟨q443, q96, by decide +kernel, by decide +kernel, hc_code⟩
abbrev hX18_init : Cond := .code yX18_init cX18_init 2 none
theorem lcX18_init : lc_ yX18_init hX18_init 2 1 := ⟨q440, q97, by decide +kernel, by decide +kernel, hc_code⟩
abbrev hX18_number : Cond := .code yX18_number cX18_number 1 (some .int)
theorem lcX18_number : lc_ yX18_number hX18_number 1 0 := ⟨q998, q97, by decide +kernel, by decide +kernel, hc_code⟩
abbrev hX19_digit : Cond := .code yX19_digit cX19_digit 1 (some .int)
theorem lcX19_digit : lc_ yX19_digit hX19_digit 1 0 := ⟨q529, q98, by decide +kernel, by decide +kernel, hc_code⟩
abbrev hX19_goerOf : Cond := .code yX19_goerOf cX19_goerOf 2 (some .int)
theorem lcX19_goerOf : lc_ yX19_goerOf hX19_goerOf 2 1 := ⟨q568, q98, by decide +kernel, by decide +kernel, hc_code⟩
abbrev hX19_here : Cond := .code yX19_here cX19_here 1 (some .int)
theorem lcX19_here : lc_ yX19_here hX19_here 1 0 := ⟨q497, q98, by decide +kernel, by decide +kernel, hc_code⟩
abbrev hX19_init : Cond := .code yX19_init cX19_init 2 none
theorem lcX19_init : lc_ yX19_init hX19_init 2 1 := ⟨q474, q98, by decide +kernel, by decide +kernel, hc_code⟩
abbrev hX19_mustStand : Cond := .code yX19_mustStand cX19_mustStand 2 none
theorem lcX19_mustStand : lc_ yX19_mustStand hX19_mustStand 2 1 := ⟨q501, q98, by decide +kernel, by decide +kernel, hc_code⟩
abbrev hX19_number : Cond := .code yX19_number cX19_number 2 (some .int)
theorem lcX19_number : lc_ yX19_number hX19_number 2 0 := ⟨q525, q98, by decide +kernel, by decide +kernel, hc_code⟩
abbrev hX19_rule : Cond := .code yX19_rule cX19_rule 3 (some (.object "GoodHalfEmpty$Told"))
theorem lcX19_rule : lc_ yX19_rule hX19_rule 3 1 := ⟨q629, q98, by decide +kernel, by decide +kernel, hc_code⟩
abbrev hX19_ruleOf : Cond := .code yX19_ruleOf cX19_ruleOf 2 (some .int)
theorem lcX19_ruleOf : lc_ yX19_ruleOf hX19_ruleOf 2 1 := ⟨q633, q98, by decide +kernel, by decide +kernel, hc_code⟩
abbrev hX19_sort : Cond := .code yX19_sort cX19_sort 7 (some (.object "GoodHalfEmpty$Told"))
theorem lcX19_sort : lc_ yX19_sort hX19_sort 7 1 := ⟨q564, q98, by decide +kernel, by decide +kernel, hc_code⟩
abbrev hX19_statement : Cond := .code yX19_statement cX19_statement 4 (some (.object "GoodHalfEmpty$Told"))
theorem lcX19_statement : lc_ yX19_statement hX19_statement 4 0 := ⟨q493, q98, by decide +kernel, by decide +kernel, hc_code⟩
abbrev hX19_take : Cond := .code yX19_take cX19_take 2 none
theorem lcX19_take : lc_ yX19_take hX19_take 2 1 := ⟨q572, q98, by decide +kernel, by decide +kernel, hc_code⟩
abbrev hX1_init : Cond := .code yX1_init cX1_init 1 none
theorem lcX1_init : lc_ yX1_init hX1_init 1 0 := ⟨q125, q77, by decide +kernel, by decide +kernel, hc_code⟩
abbrev hX20_init : Cond := .code yX20_init cX20_init 2 none
theorem lcX20_init : lc_ yX20_init hX20_init 2 1 := ⟨q513, q99, by decide +kernel, by decide +kernel, hc_code⟩
abbrev hX20_number : Cond := .code yX20_number cX20_number 1 (some .int)
theorem lcX20_number : lc_ yX20_number hX20_number 1 0 := ⟨q995, q99, by decide +kernel, by decide +kernel, hc_code⟩
abbrev hX21_init : Cond := .code yX21_init cX21_init 2 none
theorem lcX21_init : lc_ yX21_init hX21_init 2 1 := ⟨q540, q100, by decide +kernel, by decide +kernel, hc_code⟩
abbrev hX22_become : Cond := .code yX22_become cX22_become 2 none
theorem lcX22_become : lc_ yX22_become hX22_become 2 1 := ⟨q675, q101, by decide +kernel, by decide +kernel, hc_code⟩
abbrev hX22_comes : Cond := .code yX22_comes cX22_comes 3 (some .boolean)
theorem lcX22_comes : lc_ yX22_comes hX22_comes 3 1 := ⟨q660, q101, by decide +kernel, by decide +kernel, hc_code⟩
abbrev hX22_init : Cond := .code yX22_init cX22_init 3 none
theorem lcX22_init : lc_ yX22_init hX22_init 3 2 := ⟨q537, q101, by decide +kernel, by decide +kernel, hc_code⟩
abbrev hX23_become : Cond := .code yX23_become cX23_become 2 none
theorem lcX23_become : lc_ yX23_become hX23_become 2 1 := ⟨q667, q102, by decide +kernel, by decide +kernel, hc_code⟩
abbrev hX23_init : Cond := .code yX23_init cX23_init 3 none
theorem lcX23_init : lc_ yX23_init hX23_init 3 2 := ⟨q556, q102, by decide +kernel, by decide +kernel, hc_code⟩
abbrev hX24_comes : Cond := .code yX24_comes cX24_comes 3 (some .boolean)
theorem lcX24_comes : lc_ yX24_comes hX24_comes 3 1 := ⟨q683, q103, by decide +kernel, by decide +kernel, hc_code⟩
abbrev hX24_init : Cond := .code yX24_init cX24_init 3 none
theorem lcX24_init : lc_ yX24_init hX24_init 3 2 := ⟨q619, q103, by decide +kernel, by decide +kernel, hc_code⟩
abbrev hX25_init : Cond := .code yX25_init cX25_init 7 none
theorem lcX25_init : lc_ yX25_init hX25_init 7 6 := ⟨q579, q104, by decide +kernel, by decide +kernel, hc_code⟩
abbrev hX26_comes : Cond := .code yX26_comes cX26_comes 2 (some .boolean)
theorem lcX26_comes : lc_ yX26_comes hX26_comes 2 1 := ⟨q678, q105, by decide +kernel, by decide +kernel, hc_code⟩
abbrev hX26_init : Cond := .code yX26_init cX26_init 4 none
theorem lcX26_init : lc_ yX26_init hX26_init 4 3 := ⟨q638, q105, by decide +kernel, by decide +kernel, hc_code⟩
abbrev hX2_by : Cond := .code yX2_by cX2_by 3 (some .int)
theorem lcX2_by : lc_ yX2_by hX2_by 3 2 := ⟨q803, q78, by decide +kernel, by decide +kernel, hc_code⟩
abbrev hX2_foretells : Cond := .code yX2_foretells cX2_foretells 3 (some .int)
theorem lcX2_foretells : lc_ yX2_foretells hX2_foretells 3 2 := ⟨q784, q78, by decide +kernel, by decide +kernel, hc_code⟩
abbrev hX2_init : Cond := .code yX2_init cX2_init 1 none
theorem lcX2_init : lc_ yX2_init hX2_init 1 0 := ⟨q122, q78, by decide +kernel, by decide +kernel, hc_code⟩
abbrev hX2_kind : Cond := .code yX2_kind cX2_kind 1 (some .int)
theorem lcX2_kind : lc_ yX2_kind hX2_kind 1 0 := ⟨q749, q78, by decide +kernel, by decide +kernel, hc_code⟩
abbrev hX3_by : Cond := .code yX3_by cX3_by 3 (some .int)
theorem lcX3_by : lc_ yX3_by hX3_by 3 2 := ⟨q792, q79, by decide +kernel, by decide +kernel, hc_code⟩
abbrev hX3_init : Cond := .code yX3_init cX3_init 1 none
theorem lcX3_init : lc_ yX3_init hX3_init 1 0 := ⟨q132, q79, by decide +kernel, by decide +kernel, hc_code⟩
abbrev hX3_kind : Cond := .code yX3_kind cX3_kind 1 (some .int)
theorem lcX3_kind : lc_ yX3_kind hX3_kind 1 0 := ⟨q755, q79, by decide +kernel, by decide +kernel, hc_code⟩
abbrev hX4_foretells : Cond := .code yX4_foretells cX4_foretells 5 (some .int)
theorem lcX4_foretells : lc_ yX4_foretells hX4_foretells 5 2 := ⟨q771, q80, by decide +kernel, by decide +kernel, hc_code⟩
abbrev hX4_init : Cond := .code yX4_init cX4_init 1 none
theorem lcX4_init : lc_ yX4_init hX4_init 1 0 := ⟨q139, q80, by decide +kernel, by decide +kernel, hc_code⟩
abbrev hX4_kind : Cond := .code yX4_kind cX4_kind 1 (some .int)
theorem lcX4_kind : lc_ yX4_kind hX4_kind 1 0 := ⟨q752, q80, by decide +kernel, by decide +kernel, hc_code⟩
abbrev hX5_by : Cond := .code yX5_by cX5_by 3 (some .int)
theorem lcX5_by : lc_ yX5_by hX5_by 3 2 := ⟨q800, q81, by decide +kernel, by decide +kernel, hc_code⟩
abbrev hX5_init : Cond := .code yX5_init cX5_init 1 none
theorem lcX5_init : lc_ yX5_init hX5_init 1 0 := ⟨q146, q81, by decide +kernel, by decide +kernel, hc_code⟩
abbrev hX5_kind : Cond := .code yX5_kind cX5_kind 1 (some .int)
theorem lcX5_kind : lc_ yX5_kind hX5_kind 1 0 := ⟨q758, q81, by decide +kernel, by decide +kernel, hc_code⟩
abbrev hX6_foretells : Cond := .code yX6_foretells cX6_foretells 3 (some .int)
theorem lcX6_foretells : lc_ yX6_foretells hX6_foretells 3 2 := ⟨q768, q82, by decide +kernel, by decide +kernel, hc_code⟩
abbrev hX6_init : Cond := .code yX6_init cX6_init 1 none
theorem lcX6_init : lc_ yX6_init hX6_init 1 0 := ⟨q153, q82, by decide +kernel, by decide +kernel, hc_code⟩
abbrev hX6_kind : Cond := .code yX6_kind cX6_kind 1 (some .int)
theorem lcX6_kind : lc_ yX6_kind hX6_kind 1 0 := ⟨q743, q82, by decide +kernel, by decide +kernel, hc_code⟩
abbrev hX7_foretells : Cond := .code yX7_foretells cX7_foretells 3 (some .int)
theorem lcX7_foretells : lc_ yX7_foretells hX7_foretells 3 2 := ⟨q781, q83, by decide +kernel, by decide +kernel, hc_code⟩
abbrev hX7_init : Cond := .code yX7_init cX7_init 1 none
theorem lcX7_init : lc_ yX7_init hX7_init 1 0 := ⟨q160, q83, by decide +kernel, by decide +kernel, hc_code⟩
abbrev hX7_kind : Cond := .code yX7_kind cX7_kind 1 (some .int)
theorem lcX7_kind : lc_ yX7_kind hX7_kind 1 0 := ⟨q746, q83, by decide +kernel, by decide +kernel, hc_code⟩
abbrev hX8_hasRule : Cond := .code yX8_hasRule cX8_hasRule 1 (some .boolean)
theorem lcX8_hasRule : lc_ yX8_hasRule hX8_hasRule 1 0 := ⟨q695, q84, by decide +kernel, by decide +kernel, hc_code⟩
abbrev hX8_init : Cond := .code yX8_init cX8_init 1 none
theorem lcX8_init : lc_ yX8_init hX8_init 1 0 := ⟨q172, q84, by decide +kernel, by decide +kernel, hc_code⟩
abbrev hX8_isLast : Cond := .code yX8_isLast cX8_isLast 1 (some .boolean)
theorem lcX8_isLast : lc_ yX8_isLast hX8_isLast 1 0 := ⟨q835, q84, by decide +kernel, by decide +kernel, hc_code⟩
abbrev hX9_goes : Cond := .code yX9_goes cX9_goes 3 (some .boolean)
theorem lcX9_goes : lc_ yX9_goes hX9_goes 3 2 := ⟨q841, q85, by decide +kernel, by decide +kernel, hc_code⟩
abbrev hX9_init : Cond := .code yX9_init cX9_init 1 none
theorem lcX9_init : lc_ yX9_init hX9_init 1 0 := ⟨q169, q85, by decide +kernel, by decide +kernel, hc_code⟩
abbrev hX9_kind : Cond := .code yX9_kind cX9_kind 1 (some .int)
theorem lcX9_kind : lc_ yX9_kind hX9_kind 1 0 := ⟨q717, q85, by decide +kernel, by decide +kernel, hc_code⟩
theorem iX0_3 : lI_ "GoodHalfEmpty" 3 yX18_init cX18_init 2 1 := ⟨lcX18_init, (Or.inl q438), q439, rfl⟩
theorem sX0_9 : lS_ "GoodHalfEmpty" 9 yX0_must cX0_must 2 none 2 := ⟨lcX0_must, (Or.inl q394), q395⟩
theorem sX0_13 : lS_ "GoodHalfEmpty" 13 yX0_in cX0_in 6 (some .boolean) 3 := ⟨lcX0_in, (Or.inl q710), q533⟩
theorem iX0_26 : lI_ "GoodHalfEmpty" 26 yX2_init cX2_init 1 0 := ⟨lcX2_init, (Or.inr ⟨_, (nw_in q120 rfl)⟩), q121, rfl⟩
theorem iX0_29 : lI_ "GoodHalfEmpty" 29 yX3_init cX3_init 1 0 := ⟨lcX3_init, (Or.inr ⟨_, (nw_in q130 rfl)⟩), q131, rfl⟩
theorem iX0_32 : lI_ "GoodHalfEmpty" 32 yX4_init cX4_init 1 0 := ⟨lcX4_init, (Or.inr ⟨_, (nw_in q137 rfl)⟩), q138, rfl⟩
theorem iX0_35 : lI_ "GoodHalfEmpty" 35 yX5_init cX5_init 1 0 := ⟨lcX5_init, (Or.inr ⟨_, (nw_in q144 rfl)⟩), q145, rfl⟩
theorem iX0_38 : lI_ "GoodHalfEmpty" 38 yX6_init cX6_init 1 0 := ⟨lcX6_init, (Or.inr ⟨_, (nw_in q151 rfl)⟩), q152, rfl⟩
theorem iX0_41 : lI_ "GoodHalfEmpty" 41 yX7_init cX7_init 1 0 := ⟨lcX7_init, (Or.inr ⟨_, (nw_in q158 rfl)⟩), q159, rfl⟩
theorem iX0_50 : lI_ "GoodHalfEmpty" 50 yX9_init cX9_init 1 0 := ⟨lcX9_init, (Or.inr ⟨_, (nw_in q167 rfl)⟩), q168, rfl⟩
theorem iX0_53 : lI_ "GoodHalfEmpty" 53 yX10_init cX10_init 1 0 := ⟨lcX10_init, (Or.inr ⟨_, (nw_in q177 rfl)⟩), q178, rfl⟩
theorem iX0_56 : lI_ "GoodHalfEmpty" 56 yX11_init cX11_init 1 0 := ⟨lcX11_init, (Or.inr ⟨_, (nw_in q184 rfl)⟩), q185, rfl⟩
theorem iX0_59 : lI_ "GoodHalfEmpty" 59 yX12_init cX12_init 1 0 := ⟨lcX12_init, (Or.inr ⟨_, (nw_in q191 rfl)⟩), q192, rfl⟩
theorem iX0_62 : lI_ "GoodHalfEmpty" 62 yX13_init cX13_init 1 0 := ⟨lcX13_init, (Or.inr ⟨_, (nw_in q198 rfl)⟩), q199, rfl⟩
theorem iX0_65 : lI_ "GoodHalfEmpty" 65 yX14_init cX14_init 1 0 := ⟨lcX14_init, (Or.inr ⟨_, (nw_in q205 rfl)⟩), q206, rfl⟩
theorem iX0_72 : lI_ "GoodHalfEmpty" 72 yX15_init cX15_init 1 0 := ⟨lcX15_init, (Or.inr ⟨_, (nw_in q212 rfl)⟩), q213, rfl⟩
theorem iX0_109 : lI_ "GoodHalfEmpty" 109 yX19_init cX19_init 2 1 := ⟨lcX19_init, (Or.inr ⟨_, (nw_in q472 rfl)⟩), q473, rfl⟩
theorem vX0_118_19 : lV_ "GoodHalfEmpty" 118 "GoodHalfEmpty$Reader" yX19_statement hX19_statement 4 0 := ⟨lcX19_statement, (Or.inl q490), q491, q492⟩
theorem vX0_128_15 : lV_ "GoodHalfEmpty" 128 "GoodHalfEmpty$Town" yX15_set hX15_set 2 1 := ⟨lcX15_set, (Or.inl q648), q649, q650⟩
theorem uX0_132_22 : lU_ "GoodHalfEmpty" 132 "GoodHalfEmpty$NumberTold" "GoodHalfEmpty$Told" ⟨"GoodHalfEmpty$Told", "comes", "(LGoodHalfEmpty$Town;)Z"⟩ yX22_comes hX22_comes 3 1 := ⟨lcX22_comes, q655, q657, q659, q658, by decide +kernel, by decide +kernel, (Or.inl (nw_in q656 rfl))⟩
theorem uX0_132_23 : lU_ "GoodHalfEmpty" 132 "GoodHalfEmpty$WeekTold" "GoodHalfEmpty$Told" ⟨"GoodHalfEmpty$Told", "comes", "(LGoodHalfEmpty$Town;)Z"⟩ yX22_comes hX22_comes 3 1 := ⟨lcX22_comes, q655, q657, q659, q696, by decide +kernel, by decide +kernel, (Or.inl (nw_in q656 rfl))⟩
theorem uX0_132_24 : lU_ "GoodHalfEmpty" 132 "GoodHalfEmpty$SortTold" "GoodHalfEmpty$Told" ⟨"GoodHalfEmpty$Told", "comes", "(LGoodHalfEmpty$Town;)Z"⟩ yX24_comes hX24_comes 3 1 := ⟨lcX24_comes, q655, q657, q682, q681, by decide +kernel, by decide +kernel, (Or.inl (nw_in q656 rfl))⟩
theorem uX0_132_26 : lU_ "GoodHalfEmpty" 132 "GoodHalfEmpty$RuleTold" "GoodHalfEmpty$Told" ⟨"GoodHalfEmpty$Told", "comes", "(LGoodHalfEmpty$Town;)Z"⟩ yX26_comes hX26_comes 2 1 := ⟨lcX26_comes, q655, q657, q677, q676, by decide +kernel, by decide +kernel, (Or.inl (nw_in q656 rfl))⟩
theorem iX0_141 : lI_ "GoodHalfEmpty" 141 yX20_init cX20_init 2 1 := ⟨lcX20_init, (Or.inl q698), q512, rfl⟩
theorem vX0_142_0 : lV_ "GoodHalfEmpty" 142 "GoodHalfEmpty" yX0_openMind hX0_openMind 1 0 := ⟨lcX0_openMind, (Or.inl q895), q897, qs23⟩
theorem vX0_146_15 : lV_ "GoodHalfEmpty" 146 "GoodHalfEmpty$Town" yX15_week hX15_week 3 0 := ⟨lcX15_week, (Or.inl q811), q812, q813⟩
theorem sX0_159 : lS_ "GoodHalfEmpty" 159 yJ3_max cJ3_max 2 (some .int) 2 := ⟨lcJ3_max, (Or.inl q915), q777⟩
theorem sX0_168 : lS_ "GoodHalfEmpty" 168 yJ3_min cJ3_min 2 (some .int) 2 := ⟨lcJ3_min, (Or.inl q916), q673⟩
theorem vX0_174_15 : lV_ "GoodHalfEmpty" 174 "GoodHalfEmpty$Town" yX15_worth hX15_worth 3 2 := ⟨lcX15_worth, (Or.inl q875), q876, q877⟩
theorem vX0_192_15 : lV_ "GoodHalfEmpty" 192 "GoodHalfEmpty$Town" yX15_worthOfGoing hX15_worthOfGoing 3 2 := ⟨lcX15_worthOfGoing, (Or.inl q960), q880, q881⟩
theorem vX0_199_0 : lV_ "GoodHalfEmpty" 199 "GoodHalfEmpty" yX0_presentOf hX0_presentOf 3 0 := ⟨lcX0_presentOf, (Or.inl q952), q954, qs35⟩
theorem vX0_202_0 : lV_ "GoodHalfEmpty" 202 "GoodHalfEmpty" yX0_worthOfPlan hX0_worthOfPlan 6 2 := ⟨lcX0_worthOfPlan, (Or.inl q956), q958, qs36⟩
theorem vX0_212_0 : lV_ "GoodHalfEmpty" 212 "GoodHalfEmpty" yX0_doesRest hX0_doesRest 6 2 := ⟨lcX0_doesRest, (Or.inl q961), q963, qs37⟩
theorem vX0_216_0 : lV_ "GoodHalfEmpty" 216 "GoodHalfEmpty" yX0_keepRest hX0_keepRest 3 2 := ⟨lcX0_keepRest, (Or.inl q965), q967, qs38⟩
theorem vX0_220_0 : lV_ "GoodHalfEmpty" 220 "GoodHalfEmpty" yX0_nextPlan hX0_nextPlan 2 0 := ⟨lcX0_nextPlan, (Or.inl q970), q972, qs39⟩
theorem vX0_239_0 : lV_ "GoodHalfEmpty" 239 "GoodHalfEmpty" yX0_findPlans hX0_findPlans 6 1 := ⟨lcX0_findPlans, (Or.inl q948), q950, qs34⟩
theorem iX0_242 : lI_ "GoodHalfEmpty" 242 yX25_init cX25_init 7 6 := ⟨lcX25_init, (Or.inl q1105), q578, rfl⟩
theorem vX0_245_0 : lV_ "GoodHalfEmpty" 245 "GoodHalfEmpty" yX0_gainsOf hX0_gainsOf 7 3 := ⟨lcX0_gainsOf, (Or.inl q903), q905, qs25⟩
theorem uX0_249_2 : lU_ "GoodHalfEmpty" 249 "GoodHalfEmpty$Last" "GoodHalfEmpty$Rule" ⟨"GoodHalfEmpty$Rule", "foretells", "(LGoodHalfEmpty$Town;I)I"⟩ yX2_foretells hX2_foretells 3 2 := ⟨lcX2_foretells, q925, q765, q783, q782, by decide +kernel, by decide +kernel, (Or.inl (nw_in q764 rfl))⟩
theorem uX0_249_3 : lU_ "GoodHalfEmpty" 249 "GoodHalfEmpty$OtherWay" "GoodHalfEmpty$Rule" ⟨"GoodHalfEmpty$Rule", "foretells", "(LGoodHalfEmpty$Town;I)I"⟩ yX2_foretells hX2_foretells 3 2 := ⟨lcX2_foretells, q925, q765, q783, q806, by decide +kernel, by decide +kernel, (Or.inl (nw_in q764 rfl))⟩
theorem uX0_249_4 : lU_ "GoodHalfEmpty" 249 "GoodHalfEmpty$Mean" "GoodHalfEmpty$Rule" ⟨"GoodHalfEmpty$Rule", "foretells", "(LGoodHalfEmpty$Town;I)I"⟩ yX4_foretells hX4_foretells 5 2 := ⟨lcX4_foretells, q925, q765, q770, q805, by decide +kernel, by decide +kernel, (Or.inl (nw_in q764 rfl))⟩
theorem uX0_249_5 : lU_ "GoodHalfEmpty" 249 "GoodHalfEmpty$Trend" "GoodHalfEmpty$Rule" ⟨"GoodHalfEmpty$Rule", "foretells", "(LGoodHalfEmpty$Town;I)I"⟩ yX2_foretells hX2_foretells 3 2 := ⟨lcX2_foretells, q925, q765, q783, q807, by decide +kernel, by decide +kernel, (Or.inl (nw_in q764 rfl))⟩
theorem uX0_249_6 : lU_ "GoodHalfEmpty" 249 "GoodHalfEmpty$Below" "GoodHalfEmpty$Rule" ⟨"GoodHalfEmpty$Rule", "foretells", "(LGoodHalfEmpty$Town;I)I"⟩ yX6_foretells hX6_foretells 3 2 := ⟨lcX6_foretells, q925, q765, q767, q766, by decide +kernel, by decide +kernel, (Or.inl (nw_in q764 rfl))⟩
theorem uX0_249_7 : lU_ "GoodHalfEmpty" 249 "GoodHalfEmpty$Flat" "GoodHalfEmpty$Rule" ⟨"GoodHalfEmpty$Rule", "foretells", "(LGoodHalfEmpty$Town;I)I"⟩ yX7_foretells hX7_foretells 3 2 := ⟨lcX7_foretells, q925, q765, q780, q779, by decide +kernel, by decide +kernel, (Or.inl (nw_in q764 rfl))⟩
theorem vX0_258_0 : lV_ "GoodHalfEmpty" 258 "GoodHalfEmpty" yX0_look hX0_look 5 2 := ⟨lcX0_look, (Or.inl q911), q913, qs27⟩
theorem vX0_271_15 : lV_ "GoodHalfEmpty" 271 "GoodHalfEmpty$Town" yX15_people hX15_people 3 0 := ⟨lcX15_people, (Or.inl q938), q794, q795⟩
theorem vX0_277_0 : lV_ "GoodHalfEmpty" 277 "GoodHalfEmpty" yX0_ofTown hX0_ofTown 5 3 := ⟨lcX0_ofTown, (Or.inl q382), q384, qs2⟩
theorem vX0_281_0 : lV_ "GoodHalfEmpty" 281 "GoodHalfEmpty" yX0_ofWeeks hX0_ofWeeks 4 3 := ⟨lcX0_ofWeeks, (Or.inl q883), q885, qs21⟩
theorem vX0_284_0 : lV_ "GoodHalfEmpty" 284 "GoodHalfEmpty" yX0_ofRest hX0_ofRest 4 3 := ⟨lcX0_ofRest, (Or.inl q917), q919, qs28⟩
theorem vX0_287_0 : lV_ "GoodHalfEmpty" 287 "GoodHalfEmpty" yX0_doIt hX0_doIt 4 3 := ⟨lcX0_doIt, (Or.inl q378), q380, qs1⟩
theorem uX0_292_18 : lU_ "GoodHalfEmpty" 292 "GoodHalfEmpty$Refused" "GoodHalfEmpty$Refusal" ⟨"GoodHalfEmpty$Refusal", "number", "()I"⟩ yX18_number hX18_number 1 0 := ⟨lcX18_number, q990, q992, q997, q996, by decide +kernel, by decide +kernel, (Or.inl (nw_in q991 rfl))⟩
theorem uX0_292_20 : lU_ "GoodHalfEmpty" 292 "GoodHalfEmpty$Fault" "GoodHalfEmpty$Refusal" ⟨"GoodHalfEmpty$Refusal", "number", "()I"⟩ yX20_number hX20_number 1 0 := ⟨lcX20_number, q990, q992, q994, q993, by decide +kernel, by decide +kernel, (Or.inl (nw_in q991 rfl))⟩
theorem vX0_295_0 : lV_ "GoodHalfEmpty" 295 "GoodHalfEmpty" yX0_refuse hX0_refuse 2 1 := ⟨lcX0_refuse, (Or.inl q999), q1001, qs44⟩
theorem sX0_300 : lS_ "GoodHalfEmpty" 300 yX0_mustBe cX0_mustBe 2 none 2 := ⟨lcX0_mustBe, (Or.inl q707), q708⟩
theorem sX0_305 : lS_ "GoodHalfEmpty" 305 yX0_within cX0_within 6 none 3 := ⟨lcX0_within, (Or.inl q391), q392⟩
theorem vX0_311_0 : lV_ "GoodHalfEmpty" 311 "GoodHalfEmpty" yX0_mustBeSort hX0_mustBeSort 2 1 := ⟨lcX0_mustBeSort, (Or.inl q703), q705, qs16⟩
theorem uX0_320_9 : lU_ "GoodHalfEmpty" 320 "GoodHalfEmpty$Always" "GoodHalfEmpty$Goer" ⟨"GoodHalfEmpty$Goer", "kind", "()I"⟩ yX9_kind hX9_kind 1 0 := ⟨lcX9_kind, q712, q714, q716, q715, by decide +kernel, by decide +kernel, (Or.inl (nw_in q713 rfl))⟩
theorem uX0_320_10 : lU_ "GoodHalfEmpty" 320 "GoodHalfEmpty$Never" "GoodHalfEmpty$Goer" ⟨"GoodHalfEmpty$Goer", "kind", "()I"⟩ yX10_kind hX10_kind 1 0 := ⟨lcX10_kind, q712, q714, q722, q721, by decide +kernel, by decide +kernel, (Or.inl (nw_in q713 rfl))⟩
theorem uX0_320_11 : lU_ "GoodHalfEmpty" 320 "GoodHalfEmpty$Ruler" "GoodHalfEmpty$Goer" ⟨"GoodHalfEmpty$Goer", "kind", "()I"⟩ yX11_kind hX11_kind 1 0 := ⟨lcX11_kind, q712, q714, q725, q724, by decide +kernel, by decide +kernel, (Or.inl (nw_in q713 rfl))⟩
theorem uX0_320_12 : lU_ "GoodHalfEmpty" 320 "GoodHalfEmpty$Hat" "GoodHalfEmpty$Goer" ⟨"GoodHalfEmpty$Goer", "kind", "()I"⟩ yX12_kind hX12_kind 1 0 := ⟨lcX12_kind, q712, q714, q719, q718, by decide +kernel, by decide +kernel, (Or.inl (nw_in q713 rfl))⟩
theorem uX0_320_13 : lU_ "GoodHalfEmpty" 320 "GoodHalfEmpty$Turn" "GoodHalfEmpty$Goer" ⟨"GoodHalfEmpty$Goer", "kind", "()I"⟩ yX13_kind hX13_kind 1 0 := ⟨lcX13_kind, q712, q714, q731, q730, by decide +kernel, by decide +kernel, (Or.inl (nw_in q713 rfl))⟩
theorem uX0_320_14 : lU_ "GoodHalfEmpty" 320 "GoodHalfEmpty$Seer" "GoodHalfEmpty$Goer" ⟨"GoodHalfEmpty$Goer", "kind", "()I"⟩ yX14_kind hX14_kind 1 0 := ⟨lcX14_kind, q712, q714, q728, q727, by decide +kernel, by decide +kernel, (Or.inl (nw_in q713 rfl))⟩
theorem uX0_337_2 : lU_ "GoodHalfEmpty" 337 "GoodHalfEmpty$Last" "GoodHalfEmpty$Rule" ⟨"GoodHalfEmpty$Rule", "kind", "()I"⟩ yX2_kind hX2_kind 1 0 := ⟨lcX2_kind, q738, q740, q748, q747, by decide +kernel, by decide +kernel, (Or.inl (nw_in q739 rfl))⟩
theorem uX0_337_3 : lU_ "GoodHalfEmpty" 337 "GoodHalfEmpty$OtherWay" "GoodHalfEmpty$Rule" ⟨"GoodHalfEmpty$Rule", "kind", "()I"⟩ yX3_kind hX3_kind 1 0 := ⟨lcX3_kind, q738, q740, q754, q753, by decide +kernel, by decide +kernel, (Or.inl (nw_in q739 rfl))⟩
theorem uX0_337_4 : lU_ "GoodHalfEmpty" 337 "GoodHalfEmpty$Mean" "GoodHalfEmpty$Rule" ⟨"GoodHalfEmpty$Rule", "kind", "()I"⟩ yX4_kind hX4_kind 1 0 := ⟨lcX4_kind, q738, q740, q751, q750, by decide +kernel, by decide +kernel, (Or.inl (nw_in q739 rfl))⟩
theorem uX0_337_5 : lU_ "GoodHalfEmpty" 337 "GoodHalfEmpty$Trend" "GoodHalfEmpty$Rule" ⟨"GoodHalfEmpty$Rule", "kind", "()I"⟩ yX5_kind hX5_kind 1 0 := ⟨lcX5_kind, q738, q740, q757, q756, by decide +kernel, by decide +kernel, (Or.inl (nw_in q739 rfl))⟩
theorem uX0_337_6 : lU_ "GoodHalfEmpty" 337 "GoodHalfEmpty$Below" "GoodHalfEmpty$Rule" ⟨"GoodHalfEmpty$Rule", "kind", "()I"⟩ yX6_kind hX6_kind 1 0 := ⟨lcX6_kind, q738, q740, q742, q741, by decide +kernel, by decide +kernel, (Or.inl (nw_in q739 rfl))⟩
theorem uX0_337_7 : lU_ "GoodHalfEmpty" 337 "GoodHalfEmpty$Flat" "GoodHalfEmpty$Rule" ⟨"GoodHalfEmpty$Rule", "kind", "()I"⟩ yX7_kind hX7_kind 1 0 := ⟨lcX7_kind, q738, q740, q745, q744, by decide +kernel, by decide +kernel, (Or.inl (nw_in q739 rfl))⟩
theorem vX0_341_15 : lV_ "GoodHalfEmpty" 341 "GoodHalfEmpty$Town" yX15_foretold hX15_foretold 2 1 := ⟨lcX15_foretold, (Or.inl q759), q760, q761⟩
theorem vX0_344_15 : lV_ "GoodHalfEmpty" 344 "GoodHalfEmpty$Town" yX15_askAll hX15_askAll 1 0 := ⟨lcX15_askAll, (Or.inl q866), q817, q818⟩
theorem vX0_351_0 : lV_ "GoodHalfEmpty" 351 "GoodHalfEmpty" yX0_letterIt hX0_letterIt 2 1 := ⟨lcX0_letterIt, (Or.inl q386), q388, qs3⟩
theorem vX0_354_0 : lV_ "GoodHalfEmpty" 354 "GoodHalfEmpty" yX0_readTown hX0_readTown 5 0 := ⟨lcX0_readTown, (Or.inl q466), q468, qs5⟩
theorem vX0_357_0 : lV_ "GoodHalfEmpty" 357 "GoodHalfEmpty" yX0_sortTold hX0_sortTold 4 2 := ⟨lcX0_sortTold, (Or.inl q699), q701, qs15⟩
theorem vX0_360_0 : lV_ "GoodHalfEmpty" 360 "GoodHalfEmpty" yX0_ruleTold hX0_ruleTold 3 2 := ⟨lcX0_ruleTold, (Or.inl q733), q735, qs17⟩
theorem vX0_365_15 : lV_ "GoodHalfEmpty" 365 "GoodHalfEmpty$Town" yX15_ago hX15_ago 2 1 := ⟨lcX15_ago, (Or.inl q809), q773, q774⟩
theorem vX0_370_0 : lV_ "GoodHalfEmpty" 370 "GoodHalfEmpty" yX0_goesNext hX0_goesNext 2 1 := ⟨lcX0_goesNext, (Or.inl q867), q869, qs19⟩
theorem vX0_373_0 : lV_ "GoodHalfEmpty" 373 "GoodHalfEmpty" yX0_worthNext hX0_worthNext 5 1 := ⟨lcX0_worthNext, (Or.inl q871), q873, qs20⟩
theorem sX0_376 : lS_ "GoodHalfEmpty" 376 yX0_mustBeWeeks cX0_mustBeWeeks 1 none 1 := ⟨lcX0_mustBeWeeks, (Or.inl q887), q888⟩
theorem vX0_379_0 : lV_ "GoodHalfEmpty" 379 "GoodHalfEmpty" yX0_afterWeeks hX0_afterWeeks 5 1 := ⟨lcX0_afterWeeks, (Or.inl q891), q893, qs22⟩
theorem vX0_382_0 : lV_ "GoodHalfEmpty" 382 "GoodHalfEmpty" yX0_againBehind hX0_againBehind 4 0 := ⟨lcX0_againBehind, (Or.inl q899), q901, qs24⟩
theorem vX0_385_0 : lV_ "GoodHalfEmpty" 385 "GoodHalfEmpty" yX0_lookTold hX0_lookTold 3 2 := ⟨lcX0_lookTold, (Or.inl q907), q909, qs26⟩
theorem vX0_388_0 : lV_ "GoodHalfEmpty" 388 "GoodHalfEmpty" yX0_restTold hX0_restTold 2 1 := ⟨lcX0_restTold, (Or.inl q974), q976, qs40⟩
theorem vX0_391_0 : lV_ "GoodHalfEmpty" 391 "GoodHalfEmpty" yX0_bestTold hX0_bestTold 2 1 := ⟨lcX0_bestTold, (Or.inl q978), q980, qs41⟩
theorem vX0_394_0 : lV_ "GoodHalfEmpty" 394 "GoodHalfEmpty" yX0_bestPenny hX0_bestPenny 6 0 := ⟨lcX0_bestPenny, (Or.inl q982), q984, qs42⟩
theorem vX0_397_0 : lV_ "GoodHalfEmpty" 397 "GoodHalfEmpty" yX0_bestChairs hX0_bestChairs 6 0 := ⟨lcX0_bestChairs, (Or.inl q986), q988, qs43⟩
theorem vX0_400_0 : lV_ "GoodHalfEmpty" 400 "GoodHalfEmpty" yX0_gainsOfSeer hX0_gainsOfSeer 6 4 := ⟨lcX0_gainsOfSeer, (Or.inl q1100), q1102, qs47⟩
theorem vX0_404_0 : lV_ "GoodHalfEmpty" 404 "GoodHalfEmpty" yX0_mostRight hX0_mostRight 8 1 := ⟨lcX0_mostRight, (Or.inl q921), q923, qs29⟩
theorem vX0_407_0 : lV_ "GoodHalfEmpty" 407 "GoodHalfEmpty" yX0_swingOfLonger hX0_swingOfLonger 4 1 := ⟨lcX0_swingOfLonger, (Or.inl q926), q928, qs30⟩
theorem vX0_412_0 : lV_ "GoodHalfEmpty" 412 "GoodHalfEmpty" yX0_bySeeds hX0_bySeeds 8 2 := ⟨lcX0_bySeeds, (Or.inl q931), q933, qs31⟩
theorem vX0_417_0 : lV_ "GoodHalfEmpty" 417 "GoodHalfEmpty" yX0_judgeRow hX0_judgeRow 4 0 := ⟨lcX0_judgeRow, (Or.inl q940), q942, qs32⟩
theorem vX0_426_0 : lV_ "GoodHalfEmpty" 426 "GoodHalfEmpty" yX0_ofPlans hX0_ofPlans 3 2 := ⟨lcX0_ofPlans, (Or.inl q944), q946, qs33⟩
theorem vX0_429_0 : lV_ "GoodHalfEmpty" 429 "GoodHalfEmpty" yX0_act hX0_act 5 3 := ⟨lcX0_act, (Or.inl q373), q375, qs0⟩
theorem vX0_432_0 : lV_ "GoodHalfEmpty" 432 "GoodHalfEmpty" yX0_actFar hX0_actFar 5 3 := ⟨lcX0_actFar, (Or.inl q1039), q1041, qs45⟩
theorem vX0_435_0 : lV_ "GoodHalfEmpty" 435 "GoodHalfEmpty" yX0_seesTold hX0_seesTold 6 4 := ⟨lcX0_seesTold, (Or.inl q1096), q1098, qs46⟩
theorem iX9_1 : lI_ "GoodHalfEmpty$Always" 1 yX8_init cX8_init 1 0 := ⟨lcX8_init, (Or.inr ⟨_, (nw_in q170 rfl)⟩), q171, rfl⟩
theorem iX6_1 : lI_ "GoodHalfEmpty$Below" 1 yX4_init cX4_init 1 0 := ⟨lcX4_init, (Or.inr ⟨_, (nw_in q154 rfl)⟩), q138, rfl⟩
theorem pX6_7 : lP_ "GoodHalfEmpty$Below" 7 yX4_foretells cX4_foretells 5 (some .int) 2 := ⟨lcX4_foretells, q769, q1470, q155, q770, by decide +kernel⟩
theorem sX6_11 : lS_ "GoodHalfEmpty$Below" 11 yJ3_max cJ3_max 2 (some .int) 2 := ⟨lcJ3_max, (Or.inl q776), q777⟩
theorem iX20_1 : lI_ "GoodHalfEmpty$Fault" 1 yX17_init cX17_init 1 0 := ⟨lcX17_init, (Or.inr ⟨_, (nw_in q514 rfl)⟩), q442, rfl⟩
theorem iX7_1 : lI_ "GoodHalfEmpty$Flat" 1 yX1_init cX1_init 1 0 := ⟨lcX1_init, (Or.inr ⟨_, (nw_in q161 rfl)⟩), q124, rfl⟩
theorem iX12_1 : lI_ "GoodHalfEmpty$Hat" 1 yX11_init cX11_init 1 0 := ⟨lcX11_init, (Or.inr ⟨_, (nw_in q194 rfl)⟩), q185, rfl⟩
theorem pX12_7 : lP_ "GoodHalfEmpty$Hat" 7 yX11_ruleOf cX11_ruleOf 3 (some .int) 2 := ⟨lcX11_ruleOf, q852, q848, q195, q846, by decide +kernel⟩
theorem vX12_7_11 : lV_ "GoodHalfEmpty$Hat" 7 "GoodHalfEmpty$Ruler" yX11_ruleOf hX11_ruleOf 3 2 := ⟨lcX11_ruleOf, (Or.inl q852), q846, q847⟩
theorem uX12_7_12 : lU_ "GoodHalfEmpty$Hat" 7 "GoodHalfEmpty$Hat" "GoodHalfEmpty$Ruler" ⟨"GoodHalfEmpty$Ruler", "ruleOf", "(LGoodHalfEmpty$Town;I)I"⟩ yX12_ruleOf hX12_ruleOf 5 2 := ⟨lcX12_ruleOf, q852, q848, q850, q849, by decide +kernel, by decide +kernel, (Or.inr ⟨q846, _, _, _, q853⟩)⟩
theorem iX2_1 : lI_ "GoodHalfEmpty$Last" 1 yX1_init cX1_init 1 0 := ⟨lcX1_init, (Or.inr ⟨_, (nw_in q123 rfl)⟩), q124, rfl⟩
theorem vX2_7_15 : lV_ "GoodHalfEmpty$Last" 7 "GoodHalfEmpty$Town" yX15_ago hX15_ago 2 1 := ⟨lcX15_ago, (Or.inl q785), q773, q774⟩
theorem vX2_13_2 : lV_ "GoodHalfEmpty$Last" 13 "GoodHalfEmpty$Last" yX2_by hX2_by 3 2 := ⟨lcX2_by, (Or.inl q786), q787, q788⟩
theorem uX2_13_3 : lU_ "GoodHalfEmpty$Last" 13 "GoodHalfEmpty$OtherWay" "GoodHalfEmpty$Last" ⟨"GoodHalfEmpty$Last", "by", "(LGoodHalfEmpty$Town;I)I"⟩ yX3_by hX3_by 3 2 := ⟨lcX3_by, q786, q789, q791, q790, by decide +kernel, by decide +kernel, (Or.inr ⟨q787, _, _, _, q803⟩)⟩
theorem uX2_13_5 : lU_ "GoodHalfEmpty$Last" 13 "GoodHalfEmpty$Trend" "GoodHalfEmpty$Last" ⟨"GoodHalfEmpty$Last", "by", "(LGoodHalfEmpty$Town;I)I"⟩ yX5_by hX5_by 3 2 := ⟨lcX5_by, q786, q789, q799, q798, by decide +kernel, by decide +kernel, (Or.inr ⟨q787, _, _, _, q803⟩)⟩
theorem sX2_19 : lS_ "GoodHalfEmpty$Last" 19 yJ3_max cJ3_max 2 (some .int) 2 := ⟨lcJ3_max, (Or.inl q804), q777⟩
theorem iX4_1 : lI_ "GoodHalfEmpty$Mean" 1 yX1_init cX1_init 1 0 := ⟨lcX1_init, (Or.inr ⟨_, (nw_in q140 rfl)⟩), q124, rfl⟩
theorem vX4_7_15 : lV_ "GoodHalfEmpty$Mean" 7 "GoodHalfEmpty$Town" yX15_ago hX15_ago 2 1 := ⟨lcX15_ago, (Or.inl q772), q773, q774⟩
theorem iX10_1 : lI_ "GoodHalfEmpty$Never" 1 yX8_init cX8_init 1 0 := ⟨lcX8_init, (Or.inr ⟨_, (nw_in q180 rfl)⟩), q171, rfl⟩
theorem iX22_3 : lI_ "GoodHalfEmpty$NumberTold" 3 yX21_init cX21_init 2 1 := ⟨lcX21_init, (Or.inl q538), q539, rfl⟩
theorem vX22_20_22 : lV_ "GoodHalfEmpty$NumberTold" 20 "GoodHalfEmpty$NumberTold" yX22_become hX22_become 2 1 := ⟨lcX22_become, (Or.inl q661), q662, q663⟩
theorem uX22_20_23 : lU_ "GoodHalfEmpty$NumberTold" 20 "GoodHalfEmpty$WeekTold" "GoodHalfEmpty$NumberTold" ⟨"GoodHalfEmpty$NumberTold", "become", "(LGoodHalfEmpty$Town;)V"⟩ yX23_become hX23_become 2 1 := ⟨lcX23_become, q661, q664, q666, q665, by decide +kernel, by decide +kernel, (Or.inr ⟨q662, _, _, _, q675⟩)⟩
theorem iX3_1 : lI_ "GoodHalfEmpty$OtherWay" 1 yX2_init cX2_init 1 0 := ⟨lcX2_init, (Or.inr ⟨_, (nw_in q133 rfl)⟩), q121, rfl⟩
theorem vX3_7_15 : lV_ "GoodHalfEmpty$OtherWay" 7 "GoodHalfEmpty$Town" yX15_people hX15_people 3 0 := ⟨lcX15_people, (Or.inl q793), q794, q795⟩
theorem pX3_13 : lP_ "GoodHalfEmpty$OtherWay" 13 yX2_by cX2_by 3 (some .int) 2 := ⟨lcX2_by, q797, q789, q134, q787, by decide +kernel⟩
theorem vX3_13_2 : lV_ "GoodHalfEmpty$OtherWay" 13 "GoodHalfEmpty$Last" yX2_by hX2_by 3 2 := ⟨lcX2_by, (Or.inl q797), q787, q788⟩
theorem uX3_13_3 : lU_ "GoodHalfEmpty$OtherWay" 13 "GoodHalfEmpty$OtherWay" "GoodHalfEmpty$Last" ⟨"GoodHalfEmpty$Last", "by", "(LGoodHalfEmpty$Town;I)I"⟩ yX3_by hX3_by 3 2 := ⟨lcX3_by, q797, q789, q791, q790, by decide +kernel, by decide +kernel, (Or.inr ⟨q787, _, _, _, q803⟩)⟩
theorem uX3_13_5 : lU_ "GoodHalfEmpty$OtherWay" 13 "GoodHalfEmpty$Trend" "GoodHalfEmpty$Last" ⟨"GoodHalfEmpty$Last", "by", "(LGoodHalfEmpty$Town;I)I"⟩ yX5_by hX5_by 3 2 := ⟨lcX5_by, q797, q789, q799, q798, by decide +kernel, by decide +kernel, (Or.inr ⟨q787, _, _, _, q803⟩)⟩
theorem iX19_31 : lI_ "GoodHalfEmpty$Reader" 31 yX20_init cX20_init 2 1 := ⟨lcX20_init, (Or.inl q511), q512, rfl⟩
theorem vX19_34_19 : lV_ "GoodHalfEmpty$Reader" 34 "GoodHalfEmpty$Reader" yX19_here hX19_here 1 0 := ⟨lcX19_here, (Or.inl q494), q496, qs6⟩
theorem vX19_38_19 : lV_ "GoodHalfEmpty$Reader" 38 "GoodHalfEmpty$Reader" yX19_mustStand hX19_mustStand 2 1 := ⟨lcX19_mustStand, (Or.inl q498), q500, qs7⟩
theorem sX19_46 : lS_ "GoodHalfEmpty$Reader" 46 yX0_in cX0_in 6 (some .boolean) 3 := ⟨lcX0_in, (Or.inr ⟨_, (nw_in q532 rfl)⟩), q533⟩
theorem vX19_50_19 : lV_ "GoodHalfEmpty$Reader" 50 "GoodHalfEmpty$Reader" yX19_digit hX19_digit 1 0 := ⟨lcX19_digit, (Or.inl q526), q528, qs9⟩
theorem vX19_55_19 : lV_ "GoodHalfEmpty$Reader" 55 "GoodHalfEmpty$Reader" yX19_number hX19_number 2 0 := ⟨lcX19_number, (Or.inl q522), q524, qs8⟩
theorem iX19_58 : lI_ "GoodHalfEmpty$Reader" 58 yX22_init cX22_init 3 2 := ⟨lcX22_init, (Or.inl q535), q536, rfl⟩
theorem iX19_63 : lI_ "GoodHalfEmpty$Reader" 63 yX23_init cX23_init 3 2 := ⟨lcX23_init, (Or.inl q554), q555, rfl⟩
theorem vX19_64_19 : lV_ "GoodHalfEmpty$Reader" 64 "GoodHalfEmpty$Reader" yX19_sort hX19_sort 7 1 := ⟨lcX19_sort, (Or.inl q561), q563, qs10⟩
theorem vX19_68_19 : lV_ "GoodHalfEmpty$Reader" 68 "GoodHalfEmpty$Reader" yX19_rule hX19_rule 3 1 := ⟨lcX19_rule, (Or.inl q626), q628, qs13⟩
theorem vX19_71_19 : lV_ "GoodHalfEmpty$Reader" 71 "GoodHalfEmpty$Reader" yX19_take hX19_take 2 1 := ⟨lcX19_take, (Or.inl q569), q571, qs12⟩
theorem vX19_74_19 : lV_ "GoodHalfEmpty$Reader" 74 "GoodHalfEmpty$Reader" yX19_goerOf hX19_goerOf 2 1 := ⟨lcX19_goerOf, (Or.inl q565), q567, qs11⟩
theorem iX19_86 : lI_ "GoodHalfEmpty$Reader" 86 yX25_init cX25_init 7 6 := ⟨lcX25_init, (Or.inl q577), q578, rfl⟩
theorem iX19_89 : lI_ "GoodHalfEmpty$Reader" 89 yX24_init cX24_init 3 2 := ⟨lcX24_init, (Or.inl q617), q618, rfl⟩
theorem vX19_92_19 : lV_ "GoodHalfEmpty$Reader" 92 "GoodHalfEmpty$Reader" yX19_ruleOf hX19_ruleOf 2 1 := ⟨lcX19_ruleOf, (Or.inl q630), q632, qs14⟩
theorem iX19_101 : lI_ "GoodHalfEmpty$Reader" 101 yX26_init cX26_init 4 3 := ⟨lcX26_init, (Or.inl q636), q637, rfl⟩
theorem iX17_1 : lI_ "GoodHalfEmpty$Refusal" 1 yJ2_init cJ2_init 1 0 := ⟨lcJ2_init, (Or.inl q444), q445, rfl⟩
theorem iX18_1 : lI_ "GoodHalfEmpty$Refused" 1 yX17_init cX17_init 1 0 := ⟨lcX17_init, (Or.inr ⟨_, (nw_in q441 rfl)⟩), q442, rfl⟩
theorem iX26_3 : lI_ "GoodHalfEmpty$RuleTold" 3 yX21_init cX21_init 2 1 := ⟨lcX21_init, (Or.inl q639), q539, rfl⟩
theorem sX26_21 : lS_ "GoodHalfEmpty$RuleTold" 21 yX0_in cX0_in 6 (some .boolean) 3 := ⟨lcX0_in, (Or.inr ⟨_, (nw_in q680 rfl)⟩), q533⟩
theorem iX11_1 : lI_ "GoodHalfEmpty$Ruler" 1 yX8_init cX8_init 1 0 := ⟨lcX8_init, (Or.inr ⟨_, (nw_in q187 rfl)⟩), q171, rfl⟩
theorem vX11_13_11 : lV_ "GoodHalfEmpty$Ruler" 13 "GoodHalfEmpty$Ruler" yX11_ruleOf hX11_ruleOf 3 2 := ⟨lcX11_ruleOf, (Or.inl q845), q846, q847⟩
theorem uX11_13_12 : lU_ "GoodHalfEmpty$Ruler" 13 "GoodHalfEmpty$Hat" "GoodHalfEmpty$Ruler" ⟨"GoodHalfEmpty$Ruler", "ruleOf", "(LGoodHalfEmpty$Town;I)I"⟩ yX12_ruleOf hX12_ruleOf 5 2 := ⟨lcX12_ruleOf, q845, q848, q850, q849, by decide +kernel, by decide +kernel, (Or.inr ⟨q846, _, _, _, q853⟩)⟩
theorem vX11_19_15 : lV_ "GoodHalfEmpty$Ruler" 19 "GoodHalfEmpty$Town" yX15_foretold hX15_foretold 2 1 := ⟨lcX15_foretold, (Or.inl q854), q760, q761⟩
theorem iX14_1 : lI_ "GoodHalfEmpty$Seer" 1 yX8_init cX8_init 1 0 := ⟨lcX8_init, (Or.inr ⟨_, (nw_in q208 rfl)⟩), q171, rfl⟩
theorem iX24_3 : lI_ "GoodHalfEmpty$SortTold" 3 yX21_init cX21_init 2 1 := ⟨lcX21_init, (Or.inl q620), q539, rfl⟩
theorem vX24_25_9 : lV_ "GoodHalfEmpty$SortTold" 25 "GoodHalfEmpty$Always" yX8_hasRule hX8_hasRule 1 0 := ⟨lcX8_hasRule, (Or.inl q684), q685, q687⟩
theorem vX24_25_10 : lV_ "GoodHalfEmpty$SortTold" 25 "GoodHalfEmpty$Never" yX8_hasRule hX8_hasRule 1 0 := ⟨lcX8_hasRule, (Or.inl q684), q685, q691⟩
theorem uX24_25_11 : lU_ "GoodHalfEmpty$SortTold" 25 "GoodHalfEmpty$Ruler" "GoodHalfEmpty$Goer" ⟨"GoodHalfEmpty$Goer", "hasRule", "()Z"⟩ yX11_hasRule hX11_hasRule 1 0 := ⟨lcX11_hasRule, q684, q686, q689, q692, by decide +kernel, by decide +kernel, (Or.inr ⟨q685, _, _, _, q695⟩)⟩
theorem uX24_25_12 : lU_ "GoodHalfEmpty$SortTold" 25 "GoodHalfEmpty$Hat" "GoodHalfEmpty$Goer" ⟨"GoodHalfEmpty$Goer", "hasRule", "()Z"⟩ yX11_hasRule hX11_hasRule 1 0 := ⟨lcX11_hasRule, q684, q686, q689, q688, by decide +kernel, by decide +kernel, (Or.inr ⟨q685, _, _, _, q695⟩)⟩
theorem vX24_25_13 : lV_ "GoodHalfEmpty$SortTold" 25 "GoodHalfEmpty$Turn" yX8_hasRule hX8_hasRule 1 0 := ⟨lcX8_hasRule, (Or.inl q684), q685, q694⟩
theorem vX24_25_14 : lV_ "GoodHalfEmpty$SortTold" 25 "GoodHalfEmpty$Seer" yX8_hasRule hX8_hasRule 1 0 := ⟨lcX8_hasRule, (Or.inl q684), q685, q693⟩
theorem uX15_68_2 : lU_ "GoodHalfEmpty$Town" 68 "GoodHalfEmpty$Last" "GoodHalfEmpty$Rule" ⟨"GoodHalfEmpty$Rule", "foretells", "(LGoodHalfEmpty$Town;I)I"⟩ yX2_foretells hX2_foretells 3 2 := ⟨lcX2_foretells, q763, q765, q783, q782, by decide +kernel, by decide +kernel, (Or.inl (nw_in q764 rfl))⟩
theorem uX15_68_3 : lU_ "GoodHalfEmpty$Town" 68 "GoodHalfEmpty$OtherWay" "GoodHalfEmpty$Rule" ⟨"GoodHalfEmpty$Rule", "foretells", "(LGoodHalfEmpty$Town;I)I"⟩ yX2_foretells hX2_foretells 3 2 := ⟨lcX2_foretells, q763, q765, q783, q806, by decide +kernel, by decide +kernel, (Or.inl (nw_in q764 rfl))⟩
theorem uX15_68_4 : lU_ "GoodHalfEmpty$Town" 68 "GoodHalfEmpty$Mean" "GoodHalfEmpty$Rule" ⟨"GoodHalfEmpty$Rule", "foretells", "(LGoodHalfEmpty$Town;I)I"⟩ yX4_foretells hX4_foretells 5 2 := ⟨lcX4_foretells, q763, q765, q770, q805, by decide +kernel, by decide +kernel, (Or.inl (nw_in q764 rfl))⟩
theorem uX15_68_5 : lU_ "GoodHalfEmpty$Town" 68 "GoodHalfEmpty$Trend" "GoodHalfEmpty$Rule" ⟨"GoodHalfEmpty$Rule", "foretells", "(LGoodHalfEmpty$Town;I)I"⟩ yX2_foretells hX2_foretells 3 2 := ⟨lcX2_foretells, q763, q765, q783, q807, by decide +kernel, by decide +kernel, (Or.inl (nw_in q764 rfl))⟩
theorem uX15_68_6 : lU_ "GoodHalfEmpty$Town" 68 "GoodHalfEmpty$Below" "GoodHalfEmpty$Rule" ⟨"GoodHalfEmpty$Rule", "foretells", "(LGoodHalfEmpty$Town;I)I"⟩ yX6_foretells hX6_foretells 3 2 := ⟨lcX6_foretells, q763, q765, q767, q766, by decide +kernel, by decide +kernel, (Or.inl (nw_in q764 rfl))⟩
theorem uX15_68_7 : lU_ "GoodHalfEmpty$Town" 68 "GoodHalfEmpty$Flat" "GoodHalfEmpty$Rule" ⟨"GoodHalfEmpty$Rule", "foretells", "(LGoodHalfEmpty$Town;I)I"⟩ yX7_foretells hX7_foretells 3 2 := ⟨lcX7_foretells, q763, q765, q780, q779, by decide +kernel, by decide +kernel, (Or.inl (nw_in q764 rfl))⟩
theorem sX15_72 : lS_ "GoodHalfEmpty$Town" 72 yJ3_min cJ3_min 2 (some .int) 2 := ⟨lcJ3_min, (Or.inl q672), q673⟩
theorem vX15_82_9 : lV_ "GoodHalfEmpty$Town" 82 "GoodHalfEmpty$Always" yX8_isLast hX8_isLast 1 0 := ⟨lcX8_isLast, (Or.inl q824), q825, q827⟩
theorem vX15_82_10 : lV_ "GoodHalfEmpty$Town" 82 "GoodHalfEmpty$Never" yX8_isLast hX8_isLast 1 0 := ⟨lcX8_isLast, (Or.inl q824), q825, q829⟩
theorem vX15_82_11 : lV_ "GoodHalfEmpty$Town" 82 "GoodHalfEmpty$Ruler" yX8_isLast hX8_isLast 1 0 := ⟨lcX8_isLast, (Or.inl q824), q825, q830⟩
theorem vX15_82_12 : lV_ "GoodHalfEmpty$Town" 82 "GoodHalfEmpty$Hat" yX8_isLast hX8_isLast 1 0 := ⟨lcX8_isLast, (Or.inl q824), q825, q828⟩
theorem vX15_82_13 : lV_ "GoodHalfEmpty$Town" 82 "GoodHalfEmpty$Turn" yX8_isLast hX8_isLast 1 0 := ⟨lcX8_isLast, (Or.inl q824), q825, q834⟩
theorem uX15_82_14 : lU_ "GoodHalfEmpty$Town" 82 "GoodHalfEmpty$Seer" "GoodHalfEmpty$Goer" ⟨"GoodHalfEmpty$Goer", "isLast", "()Z"⟩ yX14_isLast hX14_isLast 1 0 := ⟨lcX14_isLast, q824, q826, q832, q831, by decide +kernel, by decide +kernel, (Or.inr ⟨q825, _, _, _, q835⟩)⟩
theorem uX15_88_9 : lU_ "GoodHalfEmpty$Town" 88 "GoodHalfEmpty$Always" "GoodHalfEmpty$Goer" ⟨"GoodHalfEmpty$Goer", "goes", "(LGoodHalfEmpty$Town;LGoodHalfEmpty$Sort;)Z"⟩ yX9_goes hX9_goes 3 2 := ⟨lcX9_goes, q836, q838, q840, q839, by decide +kernel, by decide +kernel, (Or.inl (nw_in q837 rfl))⟩
theorem uX15_88_10 : lU_ "GoodHalfEmpty$Town" 88 "GoodHalfEmpty$Never" "GoodHalfEmpty$Goer" ⟨"GoodHalfEmpty$Goer", "goes", "(LGoodHalfEmpty$Town;LGoodHalfEmpty$Sort;)Z"⟩ yX10_goes hX10_goes 3 2 := ⟨lcX10_goes, q836, q838, q856, q855, by decide +kernel, by decide +kernel, (Or.inl (nw_in q837 rfl))⟩
theorem uX15_88_11 : lU_ "GoodHalfEmpty$Town" 88 "GoodHalfEmpty$Ruler" "GoodHalfEmpty$Goer" ⟨"GoodHalfEmpty$Goer", "goes", "(LGoodHalfEmpty$Town;LGoodHalfEmpty$Sort;)Z"⟩ yX11_goes hX11_goes 3 2 := ⟨lcX11_goes, q836, q838, q843, q858, by decide +kernel, by decide +kernel, (Or.inl (nw_in q837 rfl))⟩
theorem uX15_88_12 : lU_ "GoodHalfEmpty$Town" 88 "GoodHalfEmpty$Hat" "GoodHalfEmpty$Goer" ⟨"GoodHalfEmpty$Goer", "goes", "(LGoodHalfEmpty$Town;LGoodHalfEmpty$Sort;)Z"⟩ yX11_goes hX11_goes 3 2 := ⟨lcX11_goes, q836, q838, q843, q842, by decide +kernel, by decide +kernel, (Or.inl (nw_in q837 rfl))⟩
theorem uX15_88_13 : lU_ "GoodHalfEmpty$Town" 88 "GoodHalfEmpty$Turn" "GoodHalfEmpty$Goer" ⟨"GoodHalfEmpty$Goer", "goes", "(LGoodHalfEmpty$Town;LGoodHalfEmpty$Sort;)Z"⟩ yX13_goes hX13_goes 3 2 := ⟨lcX13_goes, q836, q838, q863, q862, by decide +kernel, by decide +kernel, (Or.inl (nw_in q837 rfl))⟩
theorem uX15_88_14 : lU_ "GoodHalfEmpty$Town" 88 "GoodHalfEmpty$Seer" "GoodHalfEmpty$Goer" ⟨"GoodHalfEmpty$Goer", "goes", "(LGoodHalfEmpty$Town;LGoodHalfEmpty$Sort;)Z"⟩ yX14_goes hX14_goes 3 2 := ⟨lcX14_goes, q836, q838, q860, q859, by decide +kernel, by decide +kernel, (Or.inl (nw_in q837 rfl))⟩
theorem vX15_95_15 : lV_ "GoodHalfEmpty$Town" 95 "GoodHalfEmpty$Town" yX15_ask hX15_ask 3 1 := ⟨lcX15_ask, (Or.inl q820), q822, qs18⟩
theorem vX15_99_15 : lV_ "GoodHalfEmpty$Town" 99 "GoodHalfEmpty$Town" yX15_foretold hX15_foretold 2 1 := ⟨lcX15_foretold, (Or.inl q815), q760, q761⟩
theorem vX15_102_15 : lV_ "GoodHalfEmpty$Town" 102 "GoodHalfEmpty$Town" yX15_askAll hX15_askAll 1 0 := ⟨lcX15_askAll, (Or.inl q816), q817, q818⟩
theorem vX15_106_15 : lV_ "GoodHalfEmpty$Town" 106 "GoodHalfEmpty$Town" yX15_remember hX15_remember 3 1 := ⟨lcX15_remember, (Or.inl q865), q669, q670⟩
theorem vX15_116_15 : lV_ "GoodHalfEmpty$Town" 116 "GoodHalfEmpty$Town" yX15_worthOfGoing hX15_worthOfGoing 3 2 := ⟨lcX15_worthOfGoing, (Or.inl q879), q880, q881⟩
theorem iX5_1 : lI_ "GoodHalfEmpty$Trend" 1 yX2_init cX2_init 1 0 := ⟨lcX2_init, (Or.inr ⟨_, (nw_in q147 rfl)⟩), q121, rfl⟩
theorem vX5_7_15 : lV_ "GoodHalfEmpty$Trend" 7 "GoodHalfEmpty$Town" yX15_ago hX15_ago 2 1 := ⟨lcX15_ago, (Or.inl q801), q773, q774⟩
theorem pX5_13 : lP_ "GoodHalfEmpty$Trend" 13 yX2_by cX2_by 3 (some .int) 2 := ⟨lcX2_by, q802, q789, q148, q787, by decide +kernel⟩
theorem vX5_13_2 : lV_ "GoodHalfEmpty$Trend" 13 "GoodHalfEmpty$Last" yX2_by hX2_by 3 2 := ⟨lcX2_by, (Or.inl q802), q787, q788⟩
theorem uX5_13_3 : lU_ "GoodHalfEmpty$Trend" 13 "GoodHalfEmpty$OtherWay" "GoodHalfEmpty$Last" ⟨"GoodHalfEmpty$Last", "by", "(LGoodHalfEmpty$Town;I)I"⟩ yX3_by hX3_by 3 2 := ⟨lcX3_by, q802, q789, q791, q790, by decide +kernel, by decide +kernel, (Or.inr ⟨q787, _, _, _, q803⟩)⟩
theorem uX5_13_5 : lU_ "GoodHalfEmpty$Trend" 13 "GoodHalfEmpty$Trend" "GoodHalfEmpty$Last" ⟨"GoodHalfEmpty$Last", "by", "(LGoodHalfEmpty$Town;I)I"⟩ yX5_by hX5_by 3 2 := ⟨lcX5_by, q802, q789, q799, q798, by decide +kernel, by decide +kernel, (Or.inr ⟨q787, _, _, _, q803⟩)⟩
theorem iX13_1 : lI_ "GoodHalfEmpty$Turn" 1 yX8_init cX8_init 1 0 := ⟨lcX8_init, (Or.inr ⟨_, (nw_in q201 rfl)⟩), q171, rfl⟩
theorem iX23_1 : lI_ "GoodHalfEmpty$WeekTold" 1 yX22_init cX22_init 3 2 := ⟨lcX22_init, (Or.inl q557), q536, rfl⟩
theorem vX23_13_15 : lV_ "GoodHalfEmpty$WeekTold" 13 "GoodHalfEmpty$Town" yX15_remember hX15_remember 3 1 := ⟨lcX15_remember, (Or.inl q668), q669, q670⟩
theorem iL_9 : lI_ "GoodHalfEmptyLaw" 9 yX0_init cX0_init 1 0 := ⟨lcX0_init, (Or.inl q110), q111, rfl⟩
theorem iL_12 : lI_ "GoodHalfEmptyLaw" 12 yX16_init cX16_init 1 0 := ⟨lcX16_init, (Or.inl q1157), q1158, rfl⟩
theorem vL_13_0 : lV_ "GoodHalfEmptyLaw" 13 "GoodHalfEmpty" yX0_letter hX0_letter 2 1 := ⟨lcX0_letter, (Or.inl q369), q370, q371⟩
theorem vL_17_16 : lV_ "GoodHalfEmptyLaw" 17 "GoodHalfEmptyModel" yX16_letter hX16_letter 2 1 := ⟨lcX16_letter, (Or.inl q1243), q1244, q1245⟩
theorem vL_18_0 : lV_ "GoodHalfEmptyLaw" 18 "GoodHalfEmpty" yX0_town hX0_town 1 0 := ⟨lcX0_town, (Or.inl q1003), q1004, q1005⟩
theorem vL_22_16 : lV_ "GoodHalfEmptyLaw" 22 "GoodHalfEmptyModel" yX16_town hX16_town 2 0 := ⟨lcX16_town, (Or.inl q1247), q1248, q1249⟩
theorem vL_23_0 : lV_ "GoodHalfEmptyLaw" 23 "GoodHalfEmpty" yX0_sort hX0_sort 3 2 := ⟨lcX0_sort, (Or.inl q1007), q1008, q1009⟩
theorem vL_27_16 : lV_ "GoodHalfEmptyLaw" 27 "GoodHalfEmptyModel" yX16_sort hX16_sort 3 2 := ⟨lcX16_sort, (Or.inl q1283), q1284, q1285⟩
theorem vL_28_0 : lV_ "GoodHalfEmptyLaw" 28 "GoodHalfEmpty" yX0_rule hX0_rule 3 2 := ⟨lcX0_rule, (Or.inl q1011), q1012, q1013⟩
theorem vL_31_16 : lV_ "GoodHalfEmptyLaw" 31 "GoodHalfEmptyModel" yX16_rule hX16_rule 3 2 := ⟨lcX16_rule, (Or.inl q1295), q1296, q1297⟩
theorem vL_32_0 : lV_ "GoodHalfEmptyLaw" 32 "GoodHalfEmpty" yX0_remembered hX0_remembered 2 1 := ⟨lcX0_remembered, (Or.inl q1015), q1016, q1017⟩
theorem vL_35_16 : lV_ "GoodHalfEmptyLaw" 35 "GoodHalfEmptyModel" yX16_remembered hX16_remembered 2 1 := ⟨lcX16_remembered, (Or.inl q1312), q1313, q1314⟩
theorem vL_36_0 : lV_ "GoodHalfEmptyLaw" 36 "GoodHalfEmpty" yX0_penny hX0_penny 2 1 := ⟨lcX0_penny, (Or.inl q1019), q1020, q1021⟩
theorem vL_39_16 : lV_ "GoodHalfEmptyLaw" 39 "GoodHalfEmptyModel" yX16_penny hX16_penny 3 1 := ⟨lcX16_penny, (Or.inl q1316), q1317, q1318⟩
theorem vL_40_0 : lV_ "GoodHalfEmptyLaw" 40 "GoodHalfEmpty" yX0_week hX0_week 1 0 := ⟨lcX0_week, (Or.inl q1023), q1024, q1025⟩
theorem vL_43_16 : lV_ "GoodHalfEmptyLaw" 43 "GoodHalfEmptyModel" yX16_week hX16_week 1 0 := ⟨lcX16_week, (Or.inl q1320), q1321, q1322⟩
theorem vL_44_0 : lV_ "GoodHalfEmptyLaw" 44 "GoodHalfEmpty" yX0_next hX0_next 1 0 := ⟨lcX0_next, (Or.inl q1027), q1028, q1029⟩
theorem vL_47_16 : lV_ "GoodHalfEmptyLaw" 47 "GoodHalfEmptyModel" yX16_next hX16_next 1 0 := ⟨lcX16_next, (Or.inl q1340), q1341, q1342⟩
theorem vL_48_0 : lV_ "GoodHalfEmptyLaw" 48 "GoodHalfEmpty" yX0_goes hX0_goes 2 1 := ⟨lcX0_goes, (Or.inl q1031), q1032, q1033⟩
theorem vL_51_16 : lV_ "GoodHalfEmptyLaw" 51 "GoodHalfEmptyModel" yX16_goes hX16_goes 2 1 := ⟨lcX16_goes, (Or.inl q1344), q1345, q1346⟩
theorem vL_52_0 : lV_ "GoodHalfEmptyLaw" 52 "GoodHalfEmpty" yX0_worth hX0_worth 2 1 := ⟨lcX0_worth, (Or.inl q1035), q1036, q1037⟩
theorem vL_55_16 : lV_ "GoodHalfEmptyLaw" 55 "GoodHalfEmptyModel" yX16_worth hX16_worth 5 1 := ⟨lcX16_worth, (Or.inl q1348), q1349, q1350⟩
theorem vL_56_0 : lV_ "GoodHalfEmptyLaw" 56 "GoodHalfEmpty" yX0_after hX0_after 2 1 := ⟨lcX0_after, (Or.inl q1044), q1045, q1046⟩
theorem vL_59_16 : lV_ "GoodHalfEmptyLaw" 59 "GoodHalfEmptyModel" yX16_after hX16_after 2 1 := ⟨lcX16_after, (Or.inl q1361), q1362, q1363⟩
theorem vL_60_0 : lV_ "GoodHalfEmptyLaw" 60 "GoodHalfEmpty" yX0_mean hX0_mean 2 1 := ⟨lcX0_mean, (Or.inl q1048), q1049, q1050⟩
theorem vL_63_16 : lV_ "GoodHalfEmptyLaw" 63 "GoodHalfEmptyModel" yX16_mean hX16_mean 4 1 := ⟨lcX16_mean, (Or.inl q1373), q1374, q1375⟩
theorem vL_64_0 : lV_ "GoodHalfEmptyLaw" 64 "GoodHalfEmpty" yX0_swing hX0_swing 2 1 := ⟨lcX0_swing, (Or.inl q1052), q1053, q1054⟩
theorem vL_67_16 : lV_ "GoodHalfEmptyLaw" 67 "GoodHalfEmptyModel" yX16_swing hX16_swing 2 1 := ⟨lcX16_swing, (Or.inl q1377), q1378, q1379⟩
theorem vL_68_0 : lV_ "GoodHalfEmptyLaw" 68 "GoodHalfEmpty" yX0_good hX0_good 2 1 := ⟨lcX0_good, (Or.inl q1056), q1057, q1058⟩
theorem vL_71_16 : lV_ "GoodHalfEmptyLaw" 71 "GoodHalfEmptyModel" yX16_good hX16_good 4 1 := ⟨lcX16_good, (Or.inl q1386), q1387, q1388⟩
theorem vL_72_0 : lV_ "GoodHalfEmptyLaw" 72 "GoodHalfEmpty" yX0_again hX0_again 1 0 := ⟨lcX0_again, (Or.inl q1060), q1061, q1062⟩
theorem vL_75_16 : lV_ "GoodHalfEmptyLaw" 75 "GoodHalfEmptyModel" yX16_again hX16_again 4 0 := ⟨lcX16_again, (Or.inl q1390), q1391, q1392⟩
theorem vL_76_0 : lV_ "GoodHalfEmptyLaw" 76 "GoodHalfEmpty" yX0_gains hX0_gains 3 2 := ⟨lcX0_gains, (Or.inl q1064), q1065, q1066⟩
theorem vL_79_16 : lV_ "GoodHalfEmptyLaw" 79 "GoodHalfEmptyModel" yX16_gains hX16_gains 3 2 := ⟨lcX16_gains, (Or.inl q1394), q1395, q1396⟩
theorem vL_80_0 : lV_ "GoodHalfEmptyLaw" 80 "GoodHalfEmpty" yX0_rests hX0_rests 1 0 := ⟨lcX0_rests, (Or.inl q1068), q1069, q1070⟩
theorem vL_83_16 : lV_ "GoodHalfEmptyLaw" 83 "GoodHalfEmptyModel" yX16_rests hX16_rests 1 0 := ⟨lcX16_rests, (Or.inl q1398), q1399, q1400⟩
theorem vL_84_0 : lV_ "GoodHalfEmptyLaw" 84 "GoodHalfEmpty" yX0_rest hX0_rest 2 1 := ⟨lcX0_rest, (Or.inl q1072), q1073, q1074⟩
theorem vL_87_16 : lV_ "GoodHalfEmptyLaw" 87 "GoodHalfEmptyModel" yX16_rest hX16_rest 2 1 := ⟨lcX16_rest, (Or.inl q1418), q1419, q1420⟩
theorem vL_88_0 : lV_ "GoodHalfEmptyLaw" 88 "GoodHalfEmpty" yX0_best hX0_best 2 1 := ⟨lcX0_best, (Or.inl q1076), q1077, q1078⟩
theorem vL_91_16 : lV_ "GoodHalfEmptyLaw" 91 "GoodHalfEmptyModel" yX16_best hX16_best 2 1 := ⟨lcX16_best, (Or.inl q1422), q1423, q1424⟩
theorem vL_92_0 : lV_ "GoodHalfEmptyLaw" 92 "GoodHalfEmpty" yX0_off hX0_off 1 0 := ⟨lcX0_off, (Or.inl q1080), q1081, q1082⟩
theorem vL_95_16 : lV_ "GoodHalfEmptyLaw" 95 "GoodHalfEmptyModel" yX16_off hX16_off 1 0 := ⟨lcX16_off, (Or.inl q1426), q1427, q1428⟩
theorem vL_96_0 : lV_ "GoodHalfEmptyLaw" 96 "GoodHalfEmpty" yX0_pennies hX0_pennies 1 0 := ⟨lcX0_pennies, (Or.inl q1084), q1085, q1086⟩
theorem vL_99_16 : lV_ "GoodHalfEmptyLaw" 99 "GoodHalfEmptyModel" yX16_pennies hX16_pennies 5 0 := ⟨lcX16_pennies, (Or.inl q1430), q1431, q1432⟩
theorem vL_100_0 : lV_ "GoodHalfEmptyLaw" 100 "GoodHalfEmpty" yX0_chairs hX0_chairs 1 0 := ⟨lcX0_chairs, (Or.inl q1088), q1089, q1090⟩
theorem vL_103_16 : lV_ "GoodHalfEmptyLaw" 103 "GoodHalfEmptyModel" yX16_chairs hX16_chairs 5 0 := ⟨lcX16_chairs, (Or.inl q1434), q1435, q1436⟩
theorem vL_104_0 : lV_ "GoodHalfEmptyLaw" 104 "GoodHalfEmpty" yX0_sees hX0_sees 5 4 := ⟨lcX0_sees, (Or.inl q1092), q1093, q1094⟩
theorem vL_108_16 : lV_ "GoodHalfEmptyLaw" 108 "GoodHalfEmptyModel" yX16_sees hX16_sees 7 4 := ⟨lcX16_sees, (Or.inl q1438), q1439, q1440⟩
theorem vL_109_0 : lV_ "GoodHalfEmptyLaw" 109 "GoodHalfEmpty" yX0_which hX0_which 2 1 := ⟨lcX0_which, (Or.inl q1106), q1107, q1108⟩
theorem vL_112_16 : lV_ "GoodHalfEmptyLaw" 112 "GoodHalfEmptyModel" yX16_which hX16_which 9 1 := ⟨lcX16_which, (Or.inl q1442), q1443, q1444⟩
theorem vL_113_0 : lV_ "GoodHalfEmptyLaw" 113 "GoodHalfEmpty" yX0_longer hX0_longer 2 1 := ⟨lcX0_longer, (Or.inl q1110), q1111, q1112⟩
theorem vL_116_16 : lV_ "GoodHalfEmptyLaw" 116 "GoodHalfEmptyModel" yX16_longer hX16_longer 3 1 := ⟨lcX16_longer, (Or.inl q1446), q1447, q1448⟩
theorem vL_117_0 : lV_ "GoodHalfEmptyLaw" 117 "GoodHalfEmpty" yX0_seeds hX0_seeds 3 2 := ⟨lcX0_seeds, (Or.inl q1114), q1115, q1116⟩
theorem vL_120_16 : lV_ "GoodHalfEmptyLaw" 120 "GoodHalfEmptyModel" yX16_seeds hX16_seeds 7 2 := ⟨lcX16_seeds, (Or.inl q1450), q1451, q1452⟩
theorem vL_121_0 : lV_ "GoodHalfEmptyLaw" 121 "GoodHalfEmpty" yX0_row hX0_row 2 1 := ⟨lcX0_row, (Or.inl q1118), q1119, q1120⟩
theorem vL_124_16 : lV_ "GoodHalfEmptyLaw" 124 "GoodHalfEmptyModel" yX16_row hX16_row 2 1 := ⟨lcX16_row, (Or.inl q1457), q1458, q1459⟩
theorem vL_125_0 : lV_ "GoodHalfEmptyLaw" 125 "GoodHalfEmpty" yX0_judge hX0_judge 1 0 := ⟨lcX0_judge, (Or.inl q1122), q1123, q1124⟩
theorem vL_128_16 : lV_ "GoodHalfEmptyLaw" 128 "GoodHalfEmptyModel" yX16_judge hX16_judge 3 0 := ⟨lcX16_judge, (Or.inl q1461), q1462, q1463⟩
theorem vL_129_0 : lV_ "GoodHalfEmptyLaw" 129 "GoodHalfEmpty" yX0_image hX0_image 1 0 := ⟨lcX0_image, (Or.inl q1126), q1127, q1128⟩
theorem vL_132_16 : lV_ "GoodHalfEmptyLaw" 132 "GoodHalfEmptyModel" yX16_image hX16_image 1 0 := ⟨lcX16_image, (Or.inl q1140), q1141, q1142⟩
theorem vL_133_0 : lV_ "GoodHalfEmptyLaw" 133 "GoodHalfEmpty" yX0_on hX0_on 1 0 := ⟨lcX0_on, (Or.inl q1130), q1131, q1132⟩
theorem vL_136_16 : lV_ "GoodHalfEmptyLaw" 136 "GoodHalfEmptyModel" yX16_on hX16_on 1 0 := ⟨lcX16_on, (Or.inl q1147), q1148, q1149⟩
theorem vL_137_0 : lV_ "GoodHalfEmptyLaw" 137 "GoodHalfEmpty" yX0_count hX0_count 2 1 := ⟨lcX0_count, (Or.inl q1134), q1135, q1136⟩
theorem vL_140_16 : lV_ "GoodHalfEmptyLaw" 140 "GoodHalfEmptyModel" yX16_count hX16_count 2 1 := ⟨lcX16_count, (Or.inl q1465), q1466, q1467⟩
theorem sX16_17 : lS_ "GoodHalfEmptyModel" 17 yX16_move cX16_move 3 none 2 := ⟨lcX16_move, (Or.inl q1144), q1145⟩
theorem vX16_21_16 : lV_ "GoodHalfEmptyModel" 21 "GoodHalfEmptyModel" yX16_no hX16_no 2 1 := ⟨lcX16_no, (Or.inl q1151), q1153, qs48⟩
theorem vX16_69_16 : lV_ "GoodHalfEmptyModel" 69 "GoodHalfEmptyModel" yX16_of hX16_of 3 2 := ⟨lcX16_of, (Or.inl q1291), q1293, qs58⟩
theorem vX16_83_16 : lV_ "GoodHalfEmptyModel" 83 "GoodHalfEmptyModel" yX16_oneOf hX16_oneOf 4 1 := ⟨lcX16_oneOf, (Or.inl q1259), q1261, qs51⟩
theorem vX16_90_16 : lV_ "GoodHalfEmptyModel" 90 "GoodHalfEmptyModel" yX16_figures hX16_figures 4 1 := ⟨lcX16_figures, (Or.inl q1263), q1265, qs52⟩
theorem vX16_93_16 : lV_ "GoodHalfEmptyModel" 93 "GoodHalfEmptyModel" yX16_expect hX16_expect 2 1 := ⟨lcX16_expect, (Or.inl q1267), q1269, qs53⟩
theorem vX16_97_16 : lV_ "GoodHalfEmptyModel" 97 "GoodHalfEmptyModel" yX16_remember hX16_remember 3 1 := ⟨lcX16_remember, (Or.inl q1279), q1281, qs56⟩
theorem vX16_101_16 : lV_ "GoodHalfEmptyModel" 101 "GoodHalfEmptyModel" yX16_statement hX16_statement 1 0 := ⟨lcX16_statement, (Or.inl q1255), q1257, qs50⟩
theorem vX16_104_16 : lV_ "GoodHalfEmptyModel" 104 "GoodHalfEmptyModel" yX16_isAsItMustBe hX16_isAsItMustBe 3 2 := ⟨lcX16_isAsItMustBe, (Or.inl q1271), q1273, qs54⟩
theorem vX16_108_16 : lV_ "GoodHalfEmptyModel" 108 "GoodHalfEmptyModel" yX16_come hX16_come 2 0 := ⟨lcX16_come, (Or.inl q1275), q1277, qs55⟩
theorem vX16_111_16 : lV_ "GoodHalfEmptyModel" 111 "GoodHalfEmptyModel" yX16_read hX16_read 5 0 := ⟨lcX16_read, (Or.inl q1251), q1253, qs49⟩
theorem vX16_115_16 : lV_ "GoodHalfEmptyModel" 115 "GoodHalfEmptyModel" yX16_ago hX16_ago 2 1 := ⟨lcX16_ago, (Or.inl q1303), q1305, qs60⟩
theorem vX16_118_16 : lV_ "GoodHalfEmptyModel" 118 "GoodHalfEmptyModel" yX16_people hX16_people 3 0 := ⟨lcX16_people, (Or.inl q1307), q1309, qs61⟩
theorem sX16_121 : lS_ "GoodHalfEmptyModel" 121 yJ3_max cJ3_max 2 (some .int) 2 := ⟨lcJ3_max, (Or.inl q1311), q777⟩
theorem vX16_126_16 : lV_ "GoodHalfEmptyModel" 126 "GoodHalfEmptyModel" yX16_foretold hX16_foretold 5 2 := ⟨lcX16_foretold, (Or.inl q1299), q1301, qs59⟩
theorem vX16_129_16 : lV_ "GoodHalfEmptyModel" 129 "GoodHalfEmptyModel" yX16_isRoom hX16_isRoom 2 1 := ⟨lcX16_isRoom, (Or.inl q1332), q1334, qs64⟩
theorem vX16_133_16 : lV_ "GoodHalfEmptyModel" 133 "GoodHalfEmptyModel" yX16_hat hX16_hat 4 1 := ⟨lcX16_hat, (Or.inl q1336), q1338, qs65⟩
theorem vX16_136_16 : lV_ "GoodHalfEmptyModel" 136 "GoodHalfEmptyModel" yX16_worthGone hX16_worthGone 3 2 := ⟨lcX16_worthGone, (Or.inl q1357), q1359, qs67⟩
theorem vX16_139_16 : lV_ "GoodHalfEmptyModel" 139 "GoodHalfEmptyModel" yX16_present hX16_present 4 0 := ⟨lcX16_present, (Or.inl q1328), q1330, qs63⟩
theorem vX16_142_16 : lV_ "GoodHalfEmptyModel" 142 "GoodHalfEmptyModel" yX16_isNoSort hX16_isNoSort 2 1 := ⟨lcX16_isNoSort, (Or.inl q1287), q1289, qs57⟩
theorem vX16_145_16 : lV_ "GoodHalfEmptyModel" 145 "GoodHalfEmptyModel" yX16_goOn hX16_goOn 3 0 := ⟨lcX16_goOn, (Or.inl q1324), q1326, qs62⟩
theorem vX16_149_16 : lV_ "GoodHalfEmptyModel" 149 "GoodHalfEmptyModel" yX16_worthNext hX16_worthNext 3 2 := ⟨lcX16_worthNext, (Or.inl q1353), q1355, qs66⟩
theorem sX16_152 : lS_ "GoodHalfEmptyModel" 152 yJ3_min cJ3_min 2 (some .int) 2 := ⟨lcJ3_min, (Or.inl q1385), q673⟩
theorem vX16_155_16 : lV_ "GoodHalfEmptyModel" 155 "GoodHalfEmptyModel" yX16_isWrong hX16_isWrong 3 2 := ⟨lcX16_isWrong, (Or.inl q1365), q1367, qs68⟩
theorem vX16_158_16 : lV_ "GoodHalfEmptyModel" 158 "GoodHalfEmptyModel" yX16_goAhead hX16_goAhead 6 2 := ⟨lcX16_goAhead, (Or.inl q1369), q1371, qs69⟩
theorem vX16_161_16 : lV_ "GoodHalfEmptyModel" 161 "GoodHalfEmptyModel" yX16_swungIn hX16_swungIn 5 1 := ⟨lcX16_swungIn, (Or.inl q1381), q1383, qs70⟩
theorem vX16_170_16 : lV_ "GoodHalfEmptyModel" 170 "GoodHalfEmptyModel" yX16_begin hX16_begin 2 0 := ⟨lcX16_begin, (Or.inl q1406), q1408, qs72⟩
theorem vX16_179_16 : lV_ "GoodHalfEmptyModel" 179 "GoodHalfEmptyModel" yX16_isAtRest hX16_isAtRest 4 1 := ⟨lcX16_isAtRest, (Or.inl q1410), q1412, qs73⟩
theorem vX16_188_16 : lV_ "GoodHalfEmptyModel" 188 "GoodHalfEmptyModel" yX16_isNextPlan hX16_isNextPlan 2 0 := ⟨lcX16_isNextPlan, (Or.inl q1414), q1416, qs74⟩
theorem vX16_192_16 : lV_ "GoodHalfEmptyModel" 192 "GoodHalfEmptyModel" yX16_goThrough hX16_goThrough 4 0 := ⟨lcX16_goThrough, (Or.inl q1402), q1404, qs71⟩
