/-! ===== the law's entry: the Strings differ (printed by gen_z3.py) ===== -/
set_option maxRecDepth 100000
theorem ne_21_0 : lf_N[139]? = some (Cond.not (Cond.eq (Term.string "KnockerFaces$Fault" 1) (Term.string "KnockerFaces$Tokens" 11))) := rfl
theorem ne_21_1 : lf_N[150]? = some (Cond.not (Cond.eq (Term.string "KnockerFaces$Fault" 1) (Term.string "KnockerFaces$Tokens" 13))) := rfl
theorem ne_0_1 : lf_N[151]? = some (Cond.not (Cond.eq (Term.string "KnockerFaces$Tokens" 11) (Term.string "KnockerFaces$Tokens" 13))) := rfl
theorem ne_21_2 : lf_N[161]? = some (Cond.not (Cond.eq (Term.string "KnockerFaces$Fault" 1) (Term.string "KnockerFaces$Tokens" 15))) := rfl
theorem ne_0_2 : lf_N[162]? = some (Cond.not (Cond.eq (Term.string "KnockerFaces$Tokens" 11) (Term.string "KnockerFaces$Tokens" 15))) := rfl
theorem ne_1_2 : lf_N[163]? = some (Cond.not (Cond.eq (Term.string "KnockerFaces$Tokens" 13) (Term.string "KnockerFaces$Tokens" 15))) := rfl
theorem ne_21_3 : lf_N[173]? = some (Cond.not (Cond.eq (Term.string "KnockerFaces$Fault" 1) (Term.string "KnockerFaces$Tokens" 17))) := rfl
theorem ne_0_3 : lf_N[174]? = some (Cond.not (Cond.eq (Term.string "KnockerFaces$Tokens" 11) (Term.string "KnockerFaces$Tokens" 17))) := rfl
theorem ne_1_3 : lf_N[175]? = some (Cond.not (Cond.eq (Term.string "KnockerFaces$Tokens" 13) (Term.string "KnockerFaces$Tokens" 17))) := rfl
theorem ne_2_3 : lf_N[176]? = some (Cond.not (Cond.eq (Term.string "KnockerFaces$Tokens" 15) (Term.string "KnockerFaces$Tokens" 17))) := rfl
theorem ne_21_4 : lf_N[186]? = some (Cond.not (Cond.eq (Term.string "KnockerFaces$Fault" 1) (Term.string "KnockerFaces$Tokens" 19))) := rfl
theorem ne_0_4 : lf_N[187]? = some (Cond.not (Cond.eq (Term.string "KnockerFaces$Tokens" 11) (Term.string "KnockerFaces$Tokens" 19))) := rfl
theorem ne_1_4 : lf_N[188]? = some (Cond.not (Cond.eq (Term.string "KnockerFaces$Tokens" 13) (Term.string "KnockerFaces$Tokens" 19))) := rfl
theorem ne_2_4 : lf_N[189]? = some (Cond.not (Cond.eq (Term.string "KnockerFaces$Tokens" 15) (Term.string "KnockerFaces$Tokens" 19))) := rfl
theorem ne_3_4 : lf_N[190]? = some (Cond.not (Cond.eq (Term.string "KnockerFaces$Tokens" 17) (Term.string "KnockerFaces$Tokens" 19))) := rfl
theorem ne_21_5 : lf_N[199]? = some (Cond.not (Cond.eq (Term.string "KnockerFaces$Fault" 1) (Term.string "KnockerFaces$Tokens" 21))) := rfl
theorem ne_0_5 : lf_N[200]? = some (Cond.not (Cond.eq (Term.string "KnockerFaces$Tokens" 11) (Term.string "KnockerFaces$Tokens" 21))) := rfl
theorem ne_1_5 : lf_N[201]? = some (Cond.not (Cond.eq (Term.string "KnockerFaces$Tokens" 13) (Term.string "KnockerFaces$Tokens" 21))) := rfl
theorem ne_2_5 : lf_N[202]? = some (Cond.not (Cond.eq (Term.string "KnockerFaces$Tokens" 15) (Term.string "KnockerFaces$Tokens" 21))) := rfl
theorem ne_3_5 : lf_N[203]? = some (Cond.not (Cond.eq (Term.string "KnockerFaces$Tokens" 17) (Term.string "KnockerFaces$Tokens" 21))) := rfl
theorem ne_4_5 : lf_N[204]? = some (Cond.not (Cond.eq (Term.string "KnockerFaces$Tokens" 19) (Term.string "KnockerFaces$Tokens" 21))) := rfl
theorem ne_21_6 : lf_N[213]? = some (Cond.not (Cond.eq (Term.string "KnockerFaces$Fault" 1) (Term.string "KnockerFaces$Tokens" 23))) := rfl
theorem ne_0_6 : lf_N[214]? = some (Cond.not (Cond.eq (Term.string "KnockerFaces$Tokens" 11) (Term.string "KnockerFaces$Tokens" 23))) := rfl
theorem ne_1_6 : lf_N[215]? = some (Cond.not (Cond.eq (Term.string "KnockerFaces$Tokens" 13) (Term.string "KnockerFaces$Tokens" 23))) := rfl
theorem ne_2_6 : lf_N[216]? = some (Cond.not (Cond.eq (Term.string "KnockerFaces$Tokens" 15) (Term.string "KnockerFaces$Tokens" 23))) := rfl
theorem ne_3_6 : lf_N[217]? = some (Cond.not (Cond.eq (Term.string "KnockerFaces$Tokens" 17) (Term.string "KnockerFaces$Tokens" 23))) := rfl
theorem ne_4_6 : lf_N[218]? = some (Cond.not (Cond.eq (Term.string "KnockerFaces$Tokens" 19) (Term.string "KnockerFaces$Tokens" 23))) := rfl
theorem ne_5_6 : lf_N[219]? = some (Cond.not (Cond.eq (Term.string "KnockerFaces$Tokens" 21) (Term.string "KnockerFaces$Tokens" 23))) := rfl
theorem ne_21_7 : lf_N[228]? = some (Cond.not (Cond.eq (Term.string "KnockerFaces$Fault" 1) (Term.string "KnockerFaces$Tokens" 25))) := rfl
theorem ne_0_7 : lf_N[229]? = some (Cond.not (Cond.eq (Term.string "KnockerFaces$Tokens" 11) (Term.string "KnockerFaces$Tokens" 25))) := rfl
theorem ne_1_7 : lf_N[230]? = some (Cond.not (Cond.eq (Term.string "KnockerFaces$Tokens" 13) (Term.string "KnockerFaces$Tokens" 25))) := rfl
theorem ne_2_7 : lf_N[231]? = some (Cond.not (Cond.eq (Term.string "KnockerFaces$Tokens" 15) (Term.string "KnockerFaces$Tokens" 25))) := rfl
theorem ne_3_7 : lf_N[232]? = some (Cond.not (Cond.eq (Term.string "KnockerFaces$Tokens" 17) (Term.string "KnockerFaces$Tokens" 25))) := rfl
theorem ne_4_7 : lf_N[233]? = some (Cond.not (Cond.eq (Term.string "KnockerFaces$Tokens" 19) (Term.string "KnockerFaces$Tokens" 25))) := rfl
theorem ne_5_7 : lf_N[234]? = some (Cond.not (Cond.eq (Term.string "KnockerFaces$Tokens" 21) (Term.string "KnockerFaces$Tokens" 25))) := rfl
theorem ne_6_7 : lf_N[235]? = some (Cond.not (Cond.eq (Term.string "KnockerFaces$Tokens" 23) (Term.string "KnockerFaces$Tokens" 25))) := rfl
theorem ne_21_8 : lf_N[244]? = some (Cond.not (Cond.eq (Term.string "KnockerFaces$Fault" 1) (Term.string "KnockerFaces$Tokens" 27))) := rfl
theorem ne_0_8 : lf_N[245]? = some (Cond.not (Cond.eq (Term.string "KnockerFaces$Tokens" 11) (Term.string "KnockerFaces$Tokens" 27))) := rfl
theorem ne_1_8 : lf_N[246]? = some (Cond.not (Cond.eq (Term.string "KnockerFaces$Tokens" 13) (Term.string "KnockerFaces$Tokens" 27))) := rfl
theorem ne_2_8 : lf_N[247]? = some (Cond.not (Cond.eq (Term.string "KnockerFaces$Tokens" 15) (Term.string "KnockerFaces$Tokens" 27))) := rfl
theorem ne_3_8 : lf_N[248]? = some (Cond.not (Cond.eq (Term.string "KnockerFaces$Tokens" 17) (Term.string "KnockerFaces$Tokens" 27))) := rfl
theorem ne_4_8 : lf_N[249]? = some (Cond.not (Cond.eq (Term.string "KnockerFaces$Tokens" 19) (Term.string "KnockerFaces$Tokens" 27))) := rfl
theorem ne_5_8 : lf_N[250]? = some (Cond.not (Cond.eq (Term.string "KnockerFaces$Tokens" 21) (Term.string "KnockerFaces$Tokens" 27))) := rfl
theorem ne_6_8 : lf_N[251]? = some (Cond.not (Cond.eq (Term.string "KnockerFaces$Tokens" 23) (Term.string "KnockerFaces$Tokens" 27))) := rfl
theorem ne_7_8 : lf_N[252]? = some (Cond.not (Cond.eq (Term.string "KnockerFaces$Tokens" 25) (Term.string "KnockerFaces$Tokens" 27))) := rfl
theorem ne_21_9 : lf_N[259]? = some (Cond.not (Cond.eq (Term.string "KnockerFaces$Fault" 1) (Term.string "KnockerFaces$Tokens" 29))) := rfl
theorem ne_0_9 : lf_N[260]? = some (Cond.not (Cond.eq (Term.string "KnockerFaces$Tokens" 11) (Term.string "KnockerFaces$Tokens" 29))) := rfl
theorem ne_1_9 : lf_N[261]? = some (Cond.not (Cond.eq (Term.string "KnockerFaces$Tokens" 13) (Term.string "KnockerFaces$Tokens" 29))) := rfl
theorem ne_2_9 : lf_N[262]? = some (Cond.not (Cond.eq (Term.string "KnockerFaces$Tokens" 15) (Term.string "KnockerFaces$Tokens" 29))) := rfl
theorem ne_3_9 : lf_N[263]? = some (Cond.not (Cond.eq (Term.string "KnockerFaces$Tokens" 17) (Term.string "KnockerFaces$Tokens" 29))) := rfl
theorem ne_4_9 : lf_N[264]? = some (Cond.not (Cond.eq (Term.string "KnockerFaces$Tokens" 19) (Term.string "KnockerFaces$Tokens" 29))) := rfl
theorem ne_5_9 : lf_N[265]? = some (Cond.not (Cond.eq (Term.string "KnockerFaces$Tokens" 21) (Term.string "KnockerFaces$Tokens" 29))) := rfl
theorem ne_6_9 : lf_N[266]? = some (Cond.not (Cond.eq (Term.string "KnockerFaces$Tokens" 23) (Term.string "KnockerFaces$Tokens" 29))) := rfl
theorem ne_7_9 : lf_N[267]? = some (Cond.not (Cond.eq (Term.string "KnockerFaces$Tokens" 25) (Term.string "KnockerFaces$Tokens" 29))) := rfl
theorem ne_8_9 : lf_N[268]? = some (Cond.not (Cond.eq (Term.string "KnockerFaces$Tokens" 27) (Term.string "KnockerFaces$Tokens" 29))) := rfl
theorem ne_21_10 : lf_N[277]? = some (Cond.not (Cond.eq (Term.string "KnockerFaces$Fault" 1) (Term.string "KnockerFaces$Tokens" 31))) := rfl
theorem ne_0_10 : lf_N[278]? = some (Cond.not (Cond.eq (Term.string "KnockerFaces$Tokens" 11) (Term.string "KnockerFaces$Tokens" 31))) := rfl
theorem ne_1_10 : lf_N[279]? = some (Cond.not (Cond.eq (Term.string "KnockerFaces$Tokens" 13) (Term.string "KnockerFaces$Tokens" 31))) := rfl
theorem ne_2_10 : lf_N[280]? = some (Cond.not (Cond.eq (Term.string "KnockerFaces$Tokens" 15) (Term.string "KnockerFaces$Tokens" 31))) := rfl
theorem ne_3_10 : lf_N[281]? = some (Cond.not (Cond.eq (Term.string "KnockerFaces$Tokens" 17) (Term.string "KnockerFaces$Tokens" 31))) := rfl
theorem ne_4_10 : lf_N[282]? = some (Cond.not (Cond.eq (Term.string "KnockerFaces$Tokens" 19) (Term.string "KnockerFaces$Tokens" 31))) := rfl
theorem ne_5_10 : lf_N[283]? = some (Cond.not (Cond.eq (Term.string "KnockerFaces$Tokens" 21) (Term.string "KnockerFaces$Tokens" 31))) := rfl
theorem ne_6_10 : lf_N[284]? = some (Cond.not (Cond.eq (Term.string "KnockerFaces$Tokens" 23) (Term.string "KnockerFaces$Tokens" 31))) := rfl
theorem ne_7_10 : lf_N[285]? = some (Cond.not (Cond.eq (Term.string "KnockerFaces$Tokens" 25) (Term.string "KnockerFaces$Tokens" 31))) := rfl
theorem ne_8_10 : lf_N[286]? = some (Cond.not (Cond.eq (Term.string "KnockerFaces$Tokens" 27) (Term.string "KnockerFaces$Tokens" 31))) := rfl
theorem ne_9_10 : lf_N[287]? = some (Cond.not (Cond.eq (Term.string "KnockerFaces$Tokens" 29) (Term.string "KnockerFaces$Tokens" 31))) := rfl
theorem ne_21_11 : lf_N[296]? = some (Cond.not (Cond.eq (Term.string "KnockerFaces$Fault" 1) (Term.string "KnockerFaces$Tokens" 33))) := rfl
theorem ne_0_11 : lf_N[297]? = some (Cond.not (Cond.eq (Term.string "KnockerFaces$Tokens" 11) (Term.string "KnockerFaces$Tokens" 33))) := rfl
theorem ne_1_11 : lf_N[298]? = some (Cond.not (Cond.eq (Term.string "KnockerFaces$Tokens" 13) (Term.string "KnockerFaces$Tokens" 33))) := rfl
theorem ne_2_11 : lf_N[299]? = some (Cond.not (Cond.eq (Term.string "KnockerFaces$Tokens" 15) (Term.string "KnockerFaces$Tokens" 33))) := rfl
theorem ne_3_11 : lf_N[300]? = some (Cond.not (Cond.eq (Term.string "KnockerFaces$Tokens" 17) (Term.string "KnockerFaces$Tokens" 33))) := rfl
theorem ne_4_11 : lf_N[301]? = some (Cond.not (Cond.eq (Term.string "KnockerFaces$Tokens" 19) (Term.string "KnockerFaces$Tokens" 33))) := rfl
theorem ne_5_11 : lf_N[302]? = some (Cond.not (Cond.eq (Term.string "KnockerFaces$Tokens" 21) (Term.string "KnockerFaces$Tokens" 33))) := rfl
theorem ne_6_11 : lf_N[303]? = some (Cond.not (Cond.eq (Term.string "KnockerFaces$Tokens" 23) (Term.string "KnockerFaces$Tokens" 33))) := rfl
theorem ne_7_11 : lf_N[304]? = some (Cond.not (Cond.eq (Term.string "KnockerFaces$Tokens" 25) (Term.string "KnockerFaces$Tokens" 33))) := rfl
theorem ne_8_11 : lf_N[305]? = some (Cond.not (Cond.eq (Term.string "KnockerFaces$Tokens" 27) (Term.string "KnockerFaces$Tokens" 33))) := rfl
theorem ne_9_11 : lf_N[306]? = some (Cond.not (Cond.eq (Term.string "KnockerFaces$Tokens" 29) (Term.string "KnockerFaces$Tokens" 33))) := rfl
theorem ne_10_11 : lf_N[307]? = some (Cond.not (Cond.eq (Term.string "KnockerFaces$Tokens" 31) (Term.string "KnockerFaces$Tokens" 33))) := rfl
theorem ne_21_12 : lf_N[317]? = some (Cond.not (Cond.eq (Term.string "KnockerFaces$Fault" 1) (Term.string "KnockerFaces$Tokens" 35))) := rfl
theorem ne_0_12 : lf_N[318]? = some (Cond.not (Cond.eq (Term.string "KnockerFaces$Tokens" 11) (Term.string "KnockerFaces$Tokens" 35))) := rfl
theorem ne_1_12 : lf_N[319]? = some (Cond.not (Cond.eq (Term.string "KnockerFaces$Tokens" 13) (Term.string "KnockerFaces$Tokens" 35))) := rfl
theorem ne_2_12 : lf_N[320]? = some (Cond.not (Cond.eq (Term.string "KnockerFaces$Tokens" 15) (Term.string "KnockerFaces$Tokens" 35))) := rfl
theorem ne_3_12 : lf_N[321]? = some (Cond.not (Cond.eq (Term.string "KnockerFaces$Tokens" 17) (Term.string "KnockerFaces$Tokens" 35))) := rfl
theorem ne_4_12 : lf_N[322]? = some (Cond.not (Cond.eq (Term.string "KnockerFaces$Tokens" 19) (Term.string "KnockerFaces$Tokens" 35))) := rfl
theorem ne_5_12 : lf_N[323]? = some (Cond.not (Cond.eq (Term.string "KnockerFaces$Tokens" 21) (Term.string "KnockerFaces$Tokens" 35))) := rfl
theorem ne_6_12 : lf_N[324]? = some (Cond.not (Cond.eq (Term.string "KnockerFaces$Tokens" 23) (Term.string "KnockerFaces$Tokens" 35))) := rfl
theorem ne_7_12 : lf_N[325]? = some (Cond.not (Cond.eq (Term.string "KnockerFaces$Tokens" 25) (Term.string "KnockerFaces$Tokens" 35))) := rfl
theorem ne_8_12 : lf_N[326]? = some (Cond.not (Cond.eq (Term.string "KnockerFaces$Tokens" 27) (Term.string "KnockerFaces$Tokens" 35))) := rfl
theorem ne_9_12 : lf_N[327]? = some (Cond.not (Cond.eq (Term.string "KnockerFaces$Tokens" 29) (Term.string "KnockerFaces$Tokens" 35))) := rfl
theorem ne_10_12 : lf_N[328]? = some (Cond.not (Cond.eq (Term.string "KnockerFaces$Tokens" 31) (Term.string "KnockerFaces$Tokens" 35))) := rfl
theorem ne_11_12 : lf_N[329]? = some (Cond.not (Cond.eq (Term.string "KnockerFaces$Tokens" 33) (Term.string "KnockerFaces$Tokens" 35))) := rfl
theorem ne_21_13 : lf_N[338]? = some (Cond.not (Cond.eq (Term.string "KnockerFaces$Fault" 1) (Term.string "KnockerFaces$Tokens" 37))) := rfl
theorem ne_0_13 : lf_N[339]? = some (Cond.not (Cond.eq (Term.string "KnockerFaces$Tokens" 11) (Term.string "KnockerFaces$Tokens" 37))) := rfl
theorem ne_1_13 : lf_N[340]? = some (Cond.not (Cond.eq (Term.string "KnockerFaces$Tokens" 13) (Term.string "KnockerFaces$Tokens" 37))) := rfl
theorem ne_2_13 : lf_N[341]? = some (Cond.not (Cond.eq (Term.string "KnockerFaces$Tokens" 15) (Term.string "KnockerFaces$Tokens" 37))) := rfl
theorem ne_3_13 : lf_N[342]? = some (Cond.not (Cond.eq (Term.string "KnockerFaces$Tokens" 17) (Term.string "KnockerFaces$Tokens" 37))) := rfl
theorem ne_4_13 : lf_N[343]? = some (Cond.not (Cond.eq (Term.string "KnockerFaces$Tokens" 19) (Term.string "KnockerFaces$Tokens" 37))) := rfl
theorem ne_5_13 : lf_N[344]? = some (Cond.not (Cond.eq (Term.string "KnockerFaces$Tokens" 21) (Term.string "KnockerFaces$Tokens" 37))) := rfl
theorem ne_6_13 : lf_N[345]? = some (Cond.not (Cond.eq (Term.string "KnockerFaces$Tokens" 23) (Term.string "KnockerFaces$Tokens" 37))) := rfl
theorem ne_7_13 : lf_N[346]? = some (Cond.not (Cond.eq (Term.string "KnockerFaces$Tokens" 25) (Term.string "KnockerFaces$Tokens" 37))) := rfl
theorem ne_8_13 : lf_N[347]? = some (Cond.not (Cond.eq (Term.string "KnockerFaces$Tokens" 27) (Term.string "KnockerFaces$Tokens" 37))) := rfl
theorem ne_9_13 : lf_N[348]? = some (Cond.not (Cond.eq (Term.string "KnockerFaces$Tokens" 29) (Term.string "KnockerFaces$Tokens" 37))) := rfl
theorem ne_10_13 : lf_N[349]? = some (Cond.not (Cond.eq (Term.string "KnockerFaces$Tokens" 31) (Term.string "KnockerFaces$Tokens" 37))) := rfl
theorem ne_11_13 : lf_N[350]? = some (Cond.not (Cond.eq (Term.string "KnockerFaces$Tokens" 33) (Term.string "KnockerFaces$Tokens" 37))) := rfl
theorem ne_12_13 : lf_N[351]? = some (Cond.not (Cond.eq (Term.string "KnockerFaces$Tokens" 35) (Term.string "KnockerFaces$Tokens" 37))) := rfl
theorem ne_21_14 : lf_N[361]? = some (Cond.not (Cond.eq (Term.string "KnockerFaces$Fault" 1) (Term.string "KnockerFaces$Tokens" 39))) := rfl
theorem ne_0_14 : lf_N[362]? = some (Cond.not (Cond.eq (Term.string "KnockerFaces$Tokens" 11) (Term.string "KnockerFaces$Tokens" 39))) := rfl
theorem ne_1_14 : lf_N[363]? = some (Cond.not (Cond.eq (Term.string "KnockerFaces$Tokens" 13) (Term.string "KnockerFaces$Tokens" 39))) := rfl
theorem ne_2_14 : lf_N[364]? = some (Cond.not (Cond.eq (Term.string "KnockerFaces$Tokens" 15) (Term.string "KnockerFaces$Tokens" 39))) := rfl
theorem ne_3_14 : lf_N[365]? = some (Cond.not (Cond.eq (Term.string "KnockerFaces$Tokens" 17) (Term.string "KnockerFaces$Tokens" 39))) := rfl
theorem ne_4_14 : lf_N[366]? = some (Cond.not (Cond.eq (Term.string "KnockerFaces$Tokens" 19) (Term.string "KnockerFaces$Tokens" 39))) := rfl
theorem ne_5_14 : lf_N[367]? = some (Cond.not (Cond.eq (Term.string "KnockerFaces$Tokens" 21) (Term.string "KnockerFaces$Tokens" 39))) := rfl
theorem ne_6_14 : lf_N[368]? = some (Cond.not (Cond.eq (Term.string "KnockerFaces$Tokens" 23) (Term.string "KnockerFaces$Tokens" 39))) := rfl
theorem ne_7_14 : lf_N[369]? = some (Cond.not (Cond.eq (Term.string "KnockerFaces$Tokens" 25) (Term.string "KnockerFaces$Tokens" 39))) := rfl
theorem ne_8_14 : lf_N[370]? = some (Cond.not (Cond.eq (Term.string "KnockerFaces$Tokens" 27) (Term.string "KnockerFaces$Tokens" 39))) := rfl
theorem ne_9_14 : lf_N[371]? = some (Cond.not (Cond.eq (Term.string "KnockerFaces$Tokens" 29) (Term.string "KnockerFaces$Tokens" 39))) := rfl
theorem ne_10_14 : lf_N[372]? = some (Cond.not (Cond.eq (Term.string "KnockerFaces$Tokens" 31) (Term.string "KnockerFaces$Tokens" 39))) := rfl
theorem ne_11_14 : lf_N[373]? = some (Cond.not (Cond.eq (Term.string "KnockerFaces$Tokens" 33) (Term.string "KnockerFaces$Tokens" 39))) := rfl
theorem ne_12_14 : lf_N[374]? = some (Cond.not (Cond.eq (Term.string "KnockerFaces$Tokens" 35) (Term.string "KnockerFaces$Tokens" 39))) := rfl
theorem ne_13_14 : lf_N[375]? = some (Cond.not (Cond.eq (Term.string "KnockerFaces$Tokens" 37) (Term.string "KnockerFaces$Tokens" 39))) := rfl
theorem ne_21_15 : lf_N[384]? = some (Cond.not (Cond.eq (Term.string "KnockerFaces$Fault" 1) (Term.string "KnockerFaces$Tokens" 41))) := rfl
theorem ne_0_15 : lf_N[385]? = some (Cond.not (Cond.eq (Term.string "KnockerFaces$Tokens" 11) (Term.string "KnockerFaces$Tokens" 41))) := rfl
theorem ne_1_15 : lf_N[386]? = some (Cond.not (Cond.eq (Term.string "KnockerFaces$Tokens" 13) (Term.string "KnockerFaces$Tokens" 41))) := rfl
theorem ne_2_15 : lf_N[387]? = some (Cond.not (Cond.eq (Term.string "KnockerFaces$Tokens" 15) (Term.string "KnockerFaces$Tokens" 41))) := rfl
theorem ne_3_15 : lf_N[388]? = some (Cond.not (Cond.eq (Term.string "KnockerFaces$Tokens" 17) (Term.string "KnockerFaces$Tokens" 41))) := rfl
theorem ne_4_15 : lf_N[389]? = some (Cond.not (Cond.eq (Term.string "KnockerFaces$Tokens" 19) (Term.string "KnockerFaces$Tokens" 41))) := rfl
theorem ne_5_15 : lf_N[390]? = some (Cond.not (Cond.eq (Term.string "KnockerFaces$Tokens" 21) (Term.string "KnockerFaces$Tokens" 41))) := rfl
theorem ne_6_15 : lf_N[391]? = some (Cond.not (Cond.eq (Term.string "KnockerFaces$Tokens" 23) (Term.string "KnockerFaces$Tokens" 41))) := rfl
theorem ne_7_15 : lf_N[392]? = some (Cond.not (Cond.eq (Term.string "KnockerFaces$Tokens" 25) (Term.string "KnockerFaces$Tokens" 41))) := rfl
theorem ne_8_15 : lf_N[393]? = some (Cond.not (Cond.eq (Term.string "KnockerFaces$Tokens" 27) (Term.string "KnockerFaces$Tokens" 41))) := rfl
theorem ne_9_15 : lf_N[394]? = some (Cond.not (Cond.eq (Term.string "KnockerFaces$Tokens" 29) (Term.string "KnockerFaces$Tokens" 41))) := rfl
theorem ne_10_15 : lf_N[395]? = some (Cond.not (Cond.eq (Term.string "KnockerFaces$Tokens" 31) (Term.string "KnockerFaces$Tokens" 41))) := rfl
theorem ne_11_15 : lf_N[396]? = some (Cond.not (Cond.eq (Term.string "KnockerFaces$Tokens" 33) (Term.string "KnockerFaces$Tokens" 41))) := rfl
theorem ne_12_15 : lf_N[397]? = some (Cond.not (Cond.eq (Term.string "KnockerFaces$Tokens" 35) (Term.string "KnockerFaces$Tokens" 41))) := rfl
theorem ne_13_15 : lf_N[398]? = some (Cond.not (Cond.eq (Term.string "KnockerFaces$Tokens" 37) (Term.string "KnockerFaces$Tokens" 41))) := rfl
theorem ne_14_15 : lf_N[399]? = some (Cond.not (Cond.eq (Term.string "KnockerFaces$Tokens" 39) (Term.string "KnockerFaces$Tokens" 41))) := rfl
theorem ne_21_16 : lf_N[407]? = some (Cond.not (Cond.eq (Term.string "KnockerFaces$Fault" 1) (Term.string "KnockerFaces$Tokens" 43))) := rfl
theorem ne_0_16 : lf_N[408]? = some (Cond.not (Cond.eq (Term.string "KnockerFaces$Tokens" 11) (Term.string "KnockerFaces$Tokens" 43))) := rfl
theorem ne_1_16 : lf_N[409]? = some (Cond.not (Cond.eq (Term.string "KnockerFaces$Tokens" 13) (Term.string "KnockerFaces$Tokens" 43))) := rfl
theorem ne_2_16 : lf_N[410]? = some (Cond.not (Cond.eq (Term.string "KnockerFaces$Tokens" 15) (Term.string "KnockerFaces$Tokens" 43))) := rfl
theorem ne_3_16 : lf_N[411]? = some (Cond.not (Cond.eq (Term.string "KnockerFaces$Tokens" 17) (Term.string "KnockerFaces$Tokens" 43))) := rfl
theorem ne_4_16 : lf_N[412]? = some (Cond.not (Cond.eq (Term.string "KnockerFaces$Tokens" 19) (Term.string "KnockerFaces$Tokens" 43))) := rfl
theorem ne_5_16 : lf_N[413]? = some (Cond.not (Cond.eq (Term.string "KnockerFaces$Tokens" 21) (Term.string "KnockerFaces$Tokens" 43))) := rfl
theorem ne_6_16 : lf_N[414]? = some (Cond.not (Cond.eq (Term.string "KnockerFaces$Tokens" 23) (Term.string "KnockerFaces$Tokens" 43))) := rfl
theorem ne_7_16 : lf_N[415]? = some (Cond.not (Cond.eq (Term.string "KnockerFaces$Tokens" 25) (Term.string "KnockerFaces$Tokens" 43))) := rfl
theorem ne_8_16 : lf_N[416]? = some (Cond.not (Cond.eq (Term.string "KnockerFaces$Tokens" 27) (Term.string "KnockerFaces$Tokens" 43))) := rfl
theorem ne_9_16 : lf_N[417]? = some (Cond.not (Cond.eq (Term.string "KnockerFaces$Tokens" 29) (Term.string "KnockerFaces$Tokens" 43))) := rfl
theorem ne_10_16 : lf_N[418]? = some (Cond.not (Cond.eq (Term.string "KnockerFaces$Tokens" 31) (Term.string "KnockerFaces$Tokens" 43))) := rfl
theorem ne_11_16 : lf_N[419]? = some (Cond.not (Cond.eq (Term.string "KnockerFaces$Tokens" 33) (Term.string "KnockerFaces$Tokens" 43))) := rfl
theorem ne_12_16 : lf_N[420]? = some (Cond.not (Cond.eq (Term.string "KnockerFaces$Tokens" 35) (Term.string "KnockerFaces$Tokens" 43))) := rfl
theorem ne_13_16 : lf_N[421]? = some (Cond.not (Cond.eq (Term.string "KnockerFaces$Tokens" 37) (Term.string "KnockerFaces$Tokens" 43))) := rfl
theorem ne_14_16 : lf_N[422]? = some (Cond.not (Cond.eq (Term.string "KnockerFaces$Tokens" 39) (Term.string "KnockerFaces$Tokens" 43))) := rfl
theorem ne_15_16 : lf_N[423]? = some (Cond.not (Cond.eq (Term.string "KnockerFaces$Tokens" 41) (Term.string "KnockerFaces$Tokens" 43))) := rfl
theorem ne_21_17 : lf_N[432]? = some (Cond.not (Cond.eq (Term.string "KnockerFaces$Fault" 1) (Term.string "KnockerFaces$Tokens" 45))) := rfl
theorem ne_0_17 : lf_N[433]? = some (Cond.not (Cond.eq (Term.string "KnockerFaces$Tokens" 11) (Term.string "KnockerFaces$Tokens" 45))) := rfl
theorem ne_1_17 : lf_N[434]? = some (Cond.not (Cond.eq (Term.string "KnockerFaces$Tokens" 13) (Term.string "KnockerFaces$Tokens" 45))) := rfl
theorem ne_2_17 : lf_N[435]? = some (Cond.not (Cond.eq (Term.string "KnockerFaces$Tokens" 15) (Term.string "KnockerFaces$Tokens" 45))) := rfl
theorem ne_3_17 : lf_N[436]? = some (Cond.not (Cond.eq (Term.string "KnockerFaces$Tokens" 17) (Term.string "KnockerFaces$Tokens" 45))) := rfl
theorem ne_4_17 : lf_N[437]? = some (Cond.not (Cond.eq (Term.string "KnockerFaces$Tokens" 19) (Term.string "KnockerFaces$Tokens" 45))) := rfl
theorem ne_5_17 : lf_N[438]? = some (Cond.not (Cond.eq (Term.string "KnockerFaces$Tokens" 21) (Term.string "KnockerFaces$Tokens" 45))) := rfl
theorem ne_6_17 : lf_N[439]? = some (Cond.not (Cond.eq (Term.string "KnockerFaces$Tokens" 23) (Term.string "KnockerFaces$Tokens" 45))) := rfl
theorem ne_7_17 : lf_N[440]? = some (Cond.not (Cond.eq (Term.string "KnockerFaces$Tokens" 25) (Term.string "KnockerFaces$Tokens" 45))) := rfl
theorem ne_8_17 : lf_N[441]? = some (Cond.not (Cond.eq (Term.string "KnockerFaces$Tokens" 27) (Term.string "KnockerFaces$Tokens" 45))) := rfl
theorem ne_9_17 : lf_N[442]? = some (Cond.not (Cond.eq (Term.string "KnockerFaces$Tokens" 29) (Term.string "KnockerFaces$Tokens" 45))) := rfl
theorem ne_10_17 : lf_N[443]? = some (Cond.not (Cond.eq (Term.string "KnockerFaces$Tokens" 31) (Term.string "KnockerFaces$Tokens" 45))) := rfl
theorem ne_11_17 : lf_N[444]? = some (Cond.not (Cond.eq (Term.string "KnockerFaces$Tokens" 33) (Term.string "KnockerFaces$Tokens" 45))) := rfl
theorem ne_12_17 : lf_N[445]? = some (Cond.not (Cond.eq (Term.string "KnockerFaces$Tokens" 35) (Term.string "KnockerFaces$Tokens" 45))) := rfl
theorem ne_13_17 : lf_N[446]? = some (Cond.not (Cond.eq (Term.string "KnockerFaces$Tokens" 37) (Term.string "KnockerFaces$Tokens" 45))) := rfl
theorem ne_14_17 : lf_N[447]? = some (Cond.not (Cond.eq (Term.string "KnockerFaces$Tokens" 39) (Term.string "KnockerFaces$Tokens" 45))) := rfl
theorem ne_15_17 : lf_N[448]? = some (Cond.not (Cond.eq (Term.string "KnockerFaces$Tokens" 41) (Term.string "KnockerFaces$Tokens" 45))) := rfl
theorem ne_16_17 : lf_N[449]? = some (Cond.not (Cond.eq (Term.string "KnockerFaces$Tokens" 43) (Term.string "KnockerFaces$Tokens" 45))) := rfl
theorem ne_21_18 : lf_N[460]? = some (Cond.not (Cond.eq (Term.string "KnockerFaces$Fault" 1) (Term.string "KnockerFaces$Tokens" 47))) := rfl
theorem ne_0_18 : lf_N[461]? = some (Cond.not (Cond.eq (Term.string "KnockerFaces$Tokens" 11) (Term.string "KnockerFaces$Tokens" 47))) := rfl
theorem ne_1_18 : lf_N[462]? = some (Cond.not (Cond.eq (Term.string "KnockerFaces$Tokens" 13) (Term.string "KnockerFaces$Tokens" 47))) := rfl
theorem ne_2_18 : lf_N[463]? = some (Cond.not (Cond.eq (Term.string "KnockerFaces$Tokens" 15) (Term.string "KnockerFaces$Tokens" 47))) := rfl
theorem ne_3_18 : lf_N[464]? = some (Cond.not (Cond.eq (Term.string "KnockerFaces$Tokens" 17) (Term.string "KnockerFaces$Tokens" 47))) := rfl
theorem ne_4_18 : lf_N[465]? = some (Cond.not (Cond.eq (Term.string "KnockerFaces$Tokens" 19) (Term.string "KnockerFaces$Tokens" 47))) := rfl
theorem ne_5_18 : lf_N[466]? = some (Cond.not (Cond.eq (Term.string "KnockerFaces$Tokens" 21) (Term.string "KnockerFaces$Tokens" 47))) := rfl
theorem ne_6_18 : lf_N[467]? = some (Cond.not (Cond.eq (Term.string "KnockerFaces$Tokens" 23) (Term.string "KnockerFaces$Tokens" 47))) := rfl
theorem ne_7_18 : lf_N[468]? = some (Cond.not (Cond.eq (Term.string "KnockerFaces$Tokens" 25) (Term.string "KnockerFaces$Tokens" 47))) := rfl
theorem ne_8_18 : lf_N[469]? = some (Cond.not (Cond.eq (Term.string "KnockerFaces$Tokens" 27) (Term.string "KnockerFaces$Tokens" 47))) := rfl
theorem ne_9_18 : lf_N[470]? = some (Cond.not (Cond.eq (Term.string "KnockerFaces$Tokens" 29) (Term.string "KnockerFaces$Tokens" 47))) := rfl
theorem ne_10_18 : lf_N[471]? = some (Cond.not (Cond.eq (Term.string "KnockerFaces$Tokens" 31) (Term.string "KnockerFaces$Tokens" 47))) := rfl
theorem ne_11_18 : lf_N[472]? = some (Cond.not (Cond.eq (Term.string "KnockerFaces$Tokens" 33) (Term.string "KnockerFaces$Tokens" 47))) := rfl
theorem ne_12_18 : lf_N[473]? = some (Cond.not (Cond.eq (Term.string "KnockerFaces$Tokens" 35) (Term.string "KnockerFaces$Tokens" 47))) := rfl
theorem ne_13_18 : lf_N[474]? = some (Cond.not (Cond.eq (Term.string "KnockerFaces$Tokens" 37) (Term.string "KnockerFaces$Tokens" 47))) := rfl
theorem ne_14_18 : lf_N[475]? = some (Cond.not (Cond.eq (Term.string "KnockerFaces$Tokens" 39) (Term.string "KnockerFaces$Tokens" 47))) := rfl
theorem ne_15_18 : lf_N[476]? = some (Cond.not (Cond.eq (Term.string "KnockerFaces$Tokens" 41) (Term.string "KnockerFaces$Tokens" 47))) := rfl
theorem ne_16_18 : lf_N[477]? = some (Cond.not (Cond.eq (Term.string "KnockerFaces$Tokens" 43) (Term.string "KnockerFaces$Tokens" 47))) := rfl
theorem ne_17_18 : lf_N[478]? = some (Cond.not (Cond.eq (Term.string "KnockerFaces$Tokens" 45) (Term.string "KnockerFaces$Tokens" 47))) := rfl
theorem ne_21_19 : lf_N[488]? = some (Cond.not (Cond.eq (Term.string "KnockerFaces$Fault" 1) (Term.string "KnockerFaces$Tokens" 49))) := rfl
theorem ne_0_19 : lf_N[489]? = some (Cond.not (Cond.eq (Term.string "KnockerFaces$Tokens" 11) (Term.string "KnockerFaces$Tokens" 49))) := rfl
theorem ne_1_19 : lf_N[490]? = some (Cond.not (Cond.eq (Term.string "KnockerFaces$Tokens" 13) (Term.string "KnockerFaces$Tokens" 49))) := rfl
theorem ne_2_19 : lf_N[491]? = some (Cond.not (Cond.eq (Term.string "KnockerFaces$Tokens" 15) (Term.string "KnockerFaces$Tokens" 49))) := rfl
theorem ne_3_19 : lf_N[492]? = some (Cond.not (Cond.eq (Term.string "KnockerFaces$Tokens" 17) (Term.string "KnockerFaces$Tokens" 49))) := rfl
theorem ne_4_19 : lf_N[493]? = some (Cond.not (Cond.eq (Term.string "KnockerFaces$Tokens" 19) (Term.string "KnockerFaces$Tokens" 49))) := rfl
theorem ne_5_19 : lf_N[494]? = some (Cond.not (Cond.eq (Term.string "KnockerFaces$Tokens" 21) (Term.string "KnockerFaces$Tokens" 49))) := rfl
theorem ne_6_19 : lf_N[495]? = some (Cond.not (Cond.eq (Term.string "KnockerFaces$Tokens" 23) (Term.string "KnockerFaces$Tokens" 49))) := rfl
theorem ne_7_19 : lf_N[496]? = some (Cond.not (Cond.eq (Term.string "KnockerFaces$Tokens" 25) (Term.string "KnockerFaces$Tokens" 49))) := rfl
theorem ne_8_19 : lf_N[497]? = some (Cond.not (Cond.eq (Term.string "KnockerFaces$Tokens" 27) (Term.string "KnockerFaces$Tokens" 49))) := rfl
theorem ne_9_19 : lf_N[498]? = some (Cond.not (Cond.eq (Term.string "KnockerFaces$Tokens" 29) (Term.string "KnockerFaces$Tokens" 49))) := rfl
theorem ne_10_19 : lf_N[499]? = some (Cond.not (Cond.eq (Term.string "KnockerFaces$Tokens" 31) (Term.string "KnockerFaces$Tokens" 49))) := rfl
theorem ne_11_19 : lf_N[500]? = some (Cond.not (Cond.eq (Term.string "KnockerFaces$Tokens" 33) (Term.string "KnockerFaces$Tokens" 49))) := rfl
theorem ne_12_19 : lf_N[501]? = some (Cond.not (Cond.eq (Term.string "KnockerFaces$Tokens" 35) (Term.string "KnockerFaces$Tokens" 49))) := rfl
theorem ne_13_19 : lf_N[502]? = some (Cond.not (Cond.eq (Term.string "KnockerFaces$Tokens" 37) (Term.string "KnockerFaces$Tokens" 49))) := rfl
theorem ne_14_19 : lf_N[503]? = some (Cond.not (Cond.eq (Term.string "KnockerFaces$Tokens" 39) (Term.string "KnockerFaces$Tokens" 49))) := rfl
theorem ne_15_19 : lf_N[504]? = some (Cond.not (Cond.eq (Term.string "KnockerFaces$Tokens" 41) (Term.string "KnockerFaces$Tokens" 49))) := rfl
theorem ne_16_19 : lf_N[505]? = some (Cond.not (Cond.eq (Term.string "KnockerFaces$Tokens" 43) (Term.string "KnockerFaces$Tokens" 49))) := rfl
theorem ne_17_19 : lf_N[506]? = some (Cond.not (Cond.eq (Term.string "KnockerFaces$Tokens" 45) (Term.string "KnockerFaces$Tokens" 49))) := rfl
theorem ne_18_19 : lf_N[507]? = some (Cond.not (Cond.eq (Term.string "KnockerFaces$Tokens" 47) (Term.string "KnockerFaces$Tokens" 49))) := rfl
theorem ne_21_20 : lf_N[518]? = some (Cond.not (Cond.eq (Term.string "KnockerFaces$Fault" 1) (Term.string "KnockerFaces$Tokens" 51))) := rfl
theorem ne_0_20 : lf_N[519]? = some (Cond.not (Cond.eq (Term.string "KnockerFaces$Tokens" 11) (Term.string "KnockerFaces$Tokens" 51))) := rfl
theorem ne_1_20 : lf_N[520]? = some (Cond.not (Cond.eq (Term.string "KnockerFaces$Tokens" 13) (Term.string "KnockerFaces$Tokens" 51))) := rfl
theorem ne_2_20 : lf_N[521]? = some (Cond.not (Cond.eq (Term.string "KnockerFaces$Tokens" 15) (Term.string "KnockerFaces$Tokens" 51))) := rfl
theorem ne_3_20 : lf_N[522]? = some (Cond.not (Cond.eq (Term.string "KnockerFaces$Tokens" 17) (Term.string "KnockerFaces$Tokens" 51))) := rfl
theorem ne_4_20 : lf_N[523]? = some (Cond.not (Cond.eq (Term.string "KnockerFaces$Tokens" 19) (Term.string "KnockerFaces$Tokens" 51))) := rfl
theorem ne_5_20 : lf_N[524]? = some (Cond.not (Cond.eq (Term.string "KnockerFaces$Tokens" 21) (Term.string "KnockerFaces$Tokens" 51))) := rfl
theorem ne_6_20 : lf_N[525]? = some (Cond.not (Cond.eq (Term.string "KnockerFaces$Tokens" 23) (Term.string "KnockerFaces$Tokens" 51))) := rfl
theorem ne_7_20 : lf_N[526]? = some (Cond.not (Cond.eq (Term.string "KnockerFaces$Tokens" 25) (Term.string "KnockerFaces$Tokens" 51))) := rfl
theorem ne_8_20 : lf_N[527]? = some (Cond.not (Cond.eq (Term.string "KnockerFaces$Tokens" 27) (Term.string "KnockerFaces$Tokens" 51))) := rfl
theorem ne_9_20 : lf_N[528]? = some (Cond.not (Cond.eq (Term.string "KnockerFaces$Tokens" 29) (Term.string "KnockerFaces$Tokens" 51))) := rfl
theorem ne_10_20 : lf_N[529]? = some (Cond.not (Cond.eq (Term.string "KnockerFaces$Tokens" 31) (Term.string "KnockerFaces$Tokens" 51))) := rfl
theorem ne_11_20 : lf_N[530]? = some (Cond.not (Cond.eq (Term.string "KnockerFaces$Tokens" 33) (Term.string "KnockerFaces$Tokens" 51))) := rfl
theorem ne_12_20 : lf_N[531]? = some (Cond.not (Cond.eq (Term.string "KnockerFaces$Tokens" 35) (Term.string "KnockerFaces$Tokens" 51))) := rfl
theorem ne_13_20 : lf_N[532]? = some (Cond.not (Cond.eq (Term.string "KnockerFaces$Tokens" 37) (Term.string "KnockerFaces$Tokens" 51))) := rfl
theorem ne_14_20 : lf_N[533]? = some (Cond.not (Cond.eq (Term.string "KnockerFaces$Tokens" 39) (Term.string "KnockerFaces$Tokens" 51))) := rfl
theorem ne_15_20 : lf_N[534]? = some (Cond.not (Cond.eq (Term.string "KnockerFaces$Tokens" 41) (Term.string "KnockerFaces$Tokens" 51))) := rfl
theorem ne_16_20 : lf_N[535]? = some (Cond.not (Cond.eq (Term.string "KnockerFaces$Tokens" 43) (Term.string "KnockerFaces$Tokens" 51))) := rfl
theorem ne_17_20 : lf_N[536]? = some (Cond.not (Cond.eq (Term.string "KnockerFaces$Tokens" 45) (Term.string "KnockerFaces$Tokens" 51))) := rfl
theorem ne_18_20 : lf_N[537]? = some (Cond.not (Cond.eq (Term.string "KnockerFaces$Tokens" 47) (Term.string "KnockerFaces$Tokens" 51))) := rfl
theorem ne_19_20 : lf_N[538]? = some (Cond.not (Cond.eq (Term.string "KnockerFaces$Tokens" 49) (Term.string "KnockerFaces$Tokens" 51))) := rfl
theorem lf_ne_1 (i : Nat) (hi : i < 1) : (Cond.not (Cond.eq (tmS i) (tmS 1)) ∈ lf_N ∨ Cond.not (Cond.eq (tmS 1) (tmS i)) ∈ lf_N) := by
  match i, hi with
  | 0, _ => exact Or.inl (List.mem_of_getElem? ne_0_1)
  | i + 1, h => exact absurd h (by omega)
theorem lf_ne_2 (i : Nat) (hi : i < 2) : (Cond.not (Cond.eq (tmS i) (tmS 2)) ∈ lf_N ∨ Cond.not (Cond.eq (tmS 2) (tmS i)) ∈ lf_N) := by
  match i, hi with
  | 0, _ => exact Or.inl (List.mem_of_getElem? ne_0_2)
  | 1, _ => exact Or.inl (List.mem_of_getElem? ne_1_2)
  | i + 2, h => exact absurd h (by omega)
theorem lf_ne_3 (i : Nat) (hi : i < 3) : (Cond.not (Cond.eq (tmS i) (tmS 3)) ∈ lf_N ∨ Cond.not (Cond.eq (tmS 3) (tmS i)) ∈ lf_N) := by
  match i, hi with
  | 0, _ => exact Or.inl (List.mem_of_getElem? ne_0_3)
  | 1, _ => exact Or.inl (List.mem_of_getElem? ne_1_3)
  | 2, _ => exact Or.inl (List.mem_of_getElem? ne_2_3)
  | i + 3, h => exact absurd h (by omega)
theorem lf_ne_4 (i : Nat) (hi : i < 4) : (Cond.not (Cond.eq (tmS i) (tmS 4)) ∈ lf_N ∨ Cond.not (Cond.eq (tmS 4) (tmS i)) ∈ lf_N) := by
  match i, hi with
  | 0, _ => exact Or.inl (List.mem_of_getElem? ne_0_4)
  | 1, _ => exact Or.inl (List.mem_of_getElem? ne_1_4)
  | 2, _ => exact Or.inl (List.mem_of_getElem? ne_2_4)
  | 3, _ => exact Or.inl (List.mem_of_getElem? ne_3_4)
  | i + 4, h => exact absurd h (by omega)
theorem lf_ne_5 (i : Nat) (hi : i < 5) : (Cond.not (Cond.eq (tmS i) (tmS 5)) ∈ lf_N ∨ Cond.not (Cond.eq (tmS 5) (tmS i)) ∈ lf_N) := by
  match i, hi with
  | 0, _ => exact Or.inl (List.mem_of_getElem? ne_0_5)
  | 1, _ => exact Or.inl (List.mem_of_getElem? ne_1_5)
  | 2, _ => exact Or.inl (List.mem_of_getElem? ne_2_5)
  | 3, _ => exact Or.inl (List.mem_of_getElem? ne_3_5)
  | 4, _ => exact Or.inl (List.mem_of_getElem? ne_4_5)
  | i + 5, h => exact absurd h (by omega)
theorem lf_ne_6 (i : Nat) (hi : i < 6) : (Cond.not (Cond.eq (tmS i) (tmS 6)) ∈ lf_N ∨ Cond.not (Cond.eq (tmS 6) (tmS i)) ∈ lf_N) := by
  match i, hi with
  | 0, _ => exact Or.inl (List.mem_of_getElem? ne_0_6)
  | 1, _ => exact Or.inl (List.mem_of_getElem? ne_1_6)
  | 2, _ => exact Or.inl (List.mem_of_getElem? ne_2_6)
  | 3, _ => exact Or.inl (List.mem_of_getElem? ne_3_6)
  | 4, _ => exact Or.inl (List.mem_of_getElem? ne_4_6)
  | 5, _ => exact Or.inl (List.mem_of_getElem? ne_5_6)
  | i + 6, h => exact absurd h (by omega)
theorem lf_ne_7 (i : Nat) (hi : i < 7) : (Cond.not (Cond.eq (tmS i) (tmS 7)) ∈ lf_N ∨ Cond.not (Cond.eq (tmS 7) (tmS i)) ∈ lf_N) := by
  match i, hi with
  | 0, _ => exact Or.inl (List.mem_of_getElem? ne_0_7)
  | 1, _ => exact Or.inl (List.mem_of_getElem? ne_1_7)
  | 2, _ => exact Or.inl (List.mem_of_getElem? ne_2_7)
  | 3, _ => exact Or.inl (List.mem_of_getElem? ne_3_7)
  | 4, _ => exact Or.inl (List.mem_of_getElem? ne_4_7)
  | 5, _ => exact Or.inl (List.mem_of_getElem? ne_5_7)
  | 6, _ => exact Or.inl (List.mem_of_getElem? ne_6_7)
  | i + 7, h => exact absurd h (by omega)
theorem lf_ne_8 (i : Nat) (hi : i < 8) : (Cond.not (Cond.eq (tmS i) (tmS 8)) ∈ lf_N ∨ Cond.not (Cond.eq (tmS 8) (tmS i)) ∈ lf_N) := by
  match i, hi with
  | 0, _ => exact Or.inl (List.mem_of_getElem? ne_0_8)
  | 1, _ => exact Or.inl (List.mem_of_getElem? ne_1_8)
  | 2, _ => exact Or.inl (List.mem_of_getElem? ne_2_8)
  | 3, _ => exact Or.inl (List.mem_of_getElem? ne_3_8)
  | 4, _ => exact Or.inl (List.mem_of_getElem? ne_4_8)
  | 5, _ => exact Or.inl (List.mem_of_getElem? ne_5_8)
  | 6, _ => exact Or.inl (List.mem_of_getElem? ne_6_8)
  | 7, _ => exact Or.inl (List.mem_of_getElem? ne_7_8)
  | i + 8, h => exact absurd h (by omega)
theorem lf_ne_9 (i : Nat) (hi : i < 9) : (Cond.not (Cond.eq (tmS i) (tmS 9)) ∈ lf_N ∨ Cond.not (Cond.eq (tmS 9) (tmS i)) ∈ lf_N) := by
  match i, hi with
  | 0, _ => exact Or.inl (List.mem_of_getElem? ne_0_9)
  | 1, _ => exact Or.inl (List.mem_of_getElem? ne_1_9)
  | 2, _ => exact Or.inl (List.mem_of_getElem? ne_2_9)
  | 3, _ => exact Or.inl (List.mem_of_getElem? ne_3_9)
  | 4, _ => exact Or.inl (List.mem_of_getElem? ne_4_9)
  | 5, _ => exact Or.inl (List.mem_of_getElem? ne_5_9)
  | 6, _ => exact Or.inl (List.mem_of_getElem? ne_6_9)
  | 7, _ => exact Or.inl (List.mem_of_getElem? ne_7_9)
  | 8, _ => exact Or.inl (List.mem_of_getElem? ne_8_9)
  | i + 9, h => exact absurd h (by omega)
theorem lf_ne_10 (i : Nat) (hi : i < 10) : (Cond.not (Cond.eq (tmS i) (tmS 10)) ∈ lf_N ∨ Cond.not (Cond.eq (tmS 10) (tmS i)) ∈ lf_N) := by
  match i, hi with
  | 0, _ => exact Or.inl (List.mem_of_getElem? ne_0_10)
  | 1, _ => exact Or.inl (List.mem_of_getElem? ne_1_10)
  | 2, _ => exact Or.inl (List.mem_of_getElem? ne_2_10)
  | 3, _ => exact Or.inl (List.mem_of_getElem? ne_3_10)
  | 4, _ => exact Or.inl (List.mem_of_getElem? ne_4_10)
  | 5, _ => exact Or.inl (List.mem_of_getElem? ne_5_10)
  | 6, _ => exact Or.inl (List.mem_of_getElem? ne_6_10)
  | 7, _ => exact Or.inl (List.mem_of_getElem? ne_7_10)
  | 8, _ => exact Or.inl (List.mem_of_getElem? ne_8_10)
  | 9, _ => exact Or.inl (List.mem_of_getElem? ne_9_10)
  | i + 10, h => exact absurd h (by omega)
theorem lf_ne_11 (i : Nat) (hi : i < 11) : (Cond.not (Cond.eq (tmS i) (tmS 11)) ∈ lf_N ∨ Cond.not (Cond.eq (tmS 11) (tmS i)) ∈ lf_N) := by
  match i, hi with
  | 0, _ => exact Or.inl (List.mem_of_getElem? ne_0_11)
  | 1, _ => exact Or.inl (List.mem_of_getElem? ne_1_11)
  | 2, _ => exact Or.inl (List.mem_of_getElem? ne_2_11)
  | 3, _ => exact Or.inl (List.mem_of_getElem? ne_3_11)
  | 4, _ => exact Or.inl (List.mem_of_getElem? ne_4_11)
  | 5, _ => exact Or.inl (List.mem_of_getElem? ne_5_11)
  | 6, _ => exact Or.inl (List.mem_of_getElem? ne_6_11)
  | 7, _ => exact Or.inl (List.mem_of_getElem? ne_7_11)
  | 8, _ => exact Or.inl (List.mem_of_getElem? ne_8_11)
  | 9, _ => exact Or.inl (List.mem_of_getElem? ne_9_11)
  | 10, _ => exact Or.inl (List.mem_of_getElem? ne_10_11)
  | i + 11, h => exact absurd h (by omega)
theorem lf_ne_12 (i : Nat) (hi : i < 12) : (Cond.not (Cond.eq (tmS i) (tmS 12)) ∈ lf_N ∨ Cond.not (Cond.eq (tmS 12) (tmS i)) ∈ lf_N) := by
  match i, hi with
  | 0, _ => exact Or.inl (List.mem_of_getElem? ne_0_12)
  | 1, _ => exact Or.inl (List.mem_of_getElem? ne_1_12)
  | 2, _ => exact Or.inl (List.mem_of_getElem? ne_2_12)
  | 3, _ => exact Or.inl (List.mem_of_getElem? ne_3_12)
  | 4, _ => exact Or.inl (List.mem_of_getElem? ne_4_12)
  | 5, _ => exact Or.inl (List.mem_of_getElem? ne_5_12)
  | 6, _ => exact Or.inl (List.mem_of_getElem? ne_6_12)
  | 7, _ => exact Or.inl (List.mem_of_getElem? ne_7_12)
  | 8, _ => exact Or.inl (List.mem_of_getElem? ne_8_12)
  | 9, _ => exact Or.inl (List.mem_of_getElem? ne_9_12)
  | 10, _ => exact Or.inl (List.mem_of_getElem? ne_10_12)
  | 11, _ => exact Or.inl (List.mem_of_getElem? ne_11_12)
  | i + 12, h => exact absurd h (by omega)
theorem lf_ne_13 (i : Nat) (hi : i < 13) : (Cond.not (Cond.eq (tmS i) (tmS 13)) ∈ lf_N ∨ Cond.not (Cond.eq (tmS 13) (tmS i)) ∈ lf_N) := by
  match i, hi with
  | 0, _ => exact Or.inl (List.mem_of_getElem? ne_0_13)
  | 1, _ => exact Or.inl (List.mem_of_getElem? ne_1_13)
  | 2, _ => exact Or.inl (List.mem_of_getElem? ne_2_13)
  | 3, _ => exact Or.inl (List.mem_of_getElem? ne_3_13)
  | 4, _ => exact Or.inl (List.mem_of_getElem? ne_4_13)
  | 5, _ => exact Or.inl (List.mem_of_getElem? ne_5_13)
  | 6, _ => exact Or.inl (List.mem_of_getElem? ne_6_13)
  | 7, _ => exact Or.inl (List.mem_of_getElem? ne_7_13)
  | 8, _ => exact Or.inl (List.mem_of_getElem? ne_8_13)
  | 9, _ => exact Or.inl (List.mem_of_getElem? ne_9_13)
  | 10, _ => exact Or.inl (List.mem_of_getElem? ne_10_13)
  | 11, _ => exact Or.inl (List.mem_of_getElem? ne_11_13)
  | 12, _ => exact Or.inl (List.mem_of_getElem? ne_12_13)
  | i + 13, h => exact absurd h (by omega)
theorem lf_ne_14 (i : Nat) (hi : i < 14) : (Cond.not (Cond.eq (tmS i) (tmS 14)) ∈ lf_N ∨ Cond.not (Cond.eq (tmS 14) (tmS i)) ∈ lf_N) := by
  match i, hi with
  | 0, _ => exact Or.inl (List.mem_of_getElem? ne_0_14)
  | 1, _ => exact Or.inl (List.mem_of_getElem? ne_1_14)
  | 2, _ => exact Or.inl (List.mem_of_getElem? ne_2_14)
  | 3, _ => exact Or.inl (List.mem_of_getElem? ne_3_14)
  | 4, _ => exact Or.inl (List.mem_of_getElem? ne_4_14)
  | 5, _ => exact Or.inl (List.mem_of_getElem? ne_5_14)
  | 6, _ => exact Or.inl (List.mem_of_getElem? ne_6_14)
  | 7, _ => exact Or.inl (List.mem_of_getElem? ne_7_14)
  | 8, _ => exact Or.inl (List.mem_of_getElem? ne_8_14)
  | 9, _ => exact Or.inl (List.mem_of_getElem? ne_9_14)
  | 10, _ => exact Or.inl (List.mem_of_getElem? ne_10_14)
  | 11, _ => exact Or.inl (List.mem_of_getElem? ne_11_14)
  | 12, _ => exact Or.inl (List.mem_of_getElem? ne_12_14)
  | 13, _ => exact Or.inl (List.mem_of_getElem? ne_13_14)
  | i + 14, h => exact absurd h (by omega)
theorem lf_ne_15 (i : Nat) (hi : i < 15) : (Cond.not (Cond.eq (tmS i) (tmS 15)) ∈ lf_N ∨ Cond.not (Cond.eq (tmS 15) (tmS i)) ∈ lf_N) := by
  match i, hi with
  | 0, _ => exact Or.inl (List.mem_of_getElem? ne_0_15)
  | 1, _ => exact Or.inl (List.mem_of_getElem? ne_1_15)
  | 2, _ => exact Or.inl (List.mem_of_getElem? ne_2_15)
  | 3, _ => exact Or.inl (List.mem_of_getElem? ne_3_15)
  | 4, _ => exact Or.inl (List.mem_of_getElem? ne_4_15)
  | 5, _ => exact Or.inl (List.mem_of_getElem? ne_5_15)
  | 6, _ => exact Or.inl (List.mem_of_getElem? ne_6_15)
  | 7, _ => exact Or.inl (List.mem_of_getElem? ne_7_15)
  | 8, _ => exact Or.inl (List.mem_of_getElem? ne_8_15)
  | 9, _ => exact Or.inl (List.mem_of_getElem? ne_9_15)
  | 10, _ => exact Or.inl (List.mem_of_getElem? ne_10_15)
  | 11, _ => exact Or.inl (List.mem_of_getElem? ne_11_15)
  | 12, _ => exact Or.inl (List.mem_of_getElem? ne_12_15)
  | 13, _ => exact Or.inl (List.mem_of_getElem? ne_13_15)
  | 14, _ => exact Or.inl (List.mem_of_getElem? ne_14_15)
  | i + 15, h => exact absurd h (by omega)
theorem lf_ne_16 (i : Nat) (hi : i < 16) : (Cond.not (Cond.eq (tmS i) (tmS 16)) ∈ lf_N ∨ Cond.not (Cond.eq (tmS 16) (tmS i)) ∈ lf_N) := by
  match i, hi with
  | 0, _ => exact Or.inl (List.mem_of_getElem? ne_0_16)
  | 1, _ => exact Or.inl (List.mem_of_getElem? ne_1_16)
  | 2, _ => exact Or.inl (List.mem_of_getElem? ne_2_16)
  | 3, _ => exact Or.inl (List.mem_of_getElem? ne_3_16)
  | 4, _ => exact Or.inl (List.mem_of_getElem? ne_4_16)
  | 5, _ => exact Or.inl (List.mem_of_getElem? ne_5_16)
  | 6, _ => exact Or.inl (List.mem_of_getElem? ne_6_16)
  | 7, _ => exact Or.inl (List.mem_of_getElem? ne_7_16)
  | 8, _ => exact Or.inl (List.mem_of_getElem? ne_8_16)
  | 9, _ => exact Or.inl (List.mem_of_getElem? ne_9_16)
  | 10, _ => exact Or.inl (List.mem_of_getElem? ne_10_16)
  | 11, _ => exact Or.inl (List.mem_of_getElem? ne_11_16)
  | 12, _ => exact Or.inl (List.mem_of_getElem? ne_12_16)
  | 13, _ => exact Or.inl (List.mem_of_getElem? ne_13_16)
  | 14, _ => exact Or.inl (List.mem_of_getElem? ne_14_16)
  | 15, _ => exact Or.inl (List.mem_of_getElem? ne_15_16)
  | i + 16, h => exact absurd h (by omega)
theorem lf_ne_17 (i : Nat) (hi : i < 17) : (Cond.not (Cond.eq (tmS i) (tmS 17)) ∈ lf_N ∨ Cond.not (Cond.eq (tmS 17) (tmS i)) ∈ lf_N) := by
  match i, hi with
  | 0, _ => exact Or.inl (List.mem_of_getElem? ne_0_17)
  | 1, _ => exact Or.inl (List.mem_of_getElem? ne_1_17)
  | 2, _ => exact Or.inl (List.mem_of_getElem? ne_2_17)
  | 3, _ => exact Or.inl (List.mem_of_getElem? ne_3_17)
  | 4, _ => exact Or.inl (List.mem_of_getElem? ne_4_17)
  | 5, _ => exact Or.inl (List.mem_of_getElem? ne_5_17)
  | 6, _ => exact Or.inl (List.mem_of_getElem? ne_6_17)
  | 7, _ => exact Or.inl (List.mem_of_getElem? ne_7_17)
  | 8, _ => exact Or.inl (List.mem_of_getElem? ne_8_17)
  | 9, _ => exact Or.inl (List.mem_of_getElem? ne_9_17)
  | 10, _ => exact Or.inl (List.mem_of_getElem? ne_10_17)
  | 11, _ => exact Or.inl (List.mem_of_getElem? ne_11_17)
  | 12, _ => exact Or.inl (List.mem_of_getElem? ne_12_17)
  | 13, _ => exact Or.inl (List.mem_of_getElem? ne_13_17)
  | 14, _ => exact Or.inl (List.mem_of_getElem? ne_14_17)
  | 15, _ => exact Or.inl (List.mem_of_getElem? ne_15_17)
  | 16, _ => exact Or.inl (List.mem_of_getElem? ne_16_17)
  | i + 17, h => exact absurd h (by omega)
theorem lf_ne_18 (i : Nat) (hi : i < 18) : (Cond.not (Cond.eq (tmS i) (tmS 18)) ∈ lf_N ∨ Cond.not (Cond.eq (tmS 18) (tmS i)) ∈ lf_N) := by
  match i, hi with
  | 0, _ => exact Or.inl (List.mem_of_getElem? ne_0_18)
  | 1, _ => exact Or.inl (List.mem_of_getElem? ne_1_18)
  | 2, _ => exact Or.inl (List.mem_of_getElem? ne_2_18)
  | 3, _ => exact Or.inl (List.mem_of_getElem? ne_3_18)
  | 4, _ => exact Or.inl (List.mem_of_getElem? ne_4_18)
  | 5, _ => exact Or.inl (List.mem_of_getElem? ne_5_18)
  | 6, _ => exact Or.inl (List.mem_of_getElem? ne_6_18)
  | 7, _ => exact Or.inl (List.mem_of_getElem? ne_7_18)
  | 8, _ => exact Or.inl (List.mem_of_getElem? ne_8_18)
  | 9, _ => exact Or.inl (List.mem_of_getElem? ne_9_18)
  | 10, _ => exact Or.inl (List.mem_of_getElem? ne_10_18)
  | 11, _ => exact Or.inl (List.mem_of_getElem? ne_11_18)
  | 12, _ => exact Or.inl (List.mem_of_getElem? ne_12_18)
  | 13, _ => exact Or.inl (List.mem_of_getElem? ne_13_18)
  | 14, _ => exact Or.inl (List.mem_of_getElem? ne_14_18)
  | 15, _ => exact Or.inl (List.mem_of_getElem? ne_15_18)
  | 16, _ => exact Or.inl (List.mem_of_getElem? ne_16_18)
  | 17, _ => exact Or.inl (List.mem_of_getElem? ne_17_18)
  | i + 18, h => exact absurd h (by omega)
theorem lf_ne_19 (i : Nat) (hi : i < 19) : (Cond.not (Cond.eq (tmS i) (tmS 19)) ∈ lf_N ∨ Cond.not (Cond.eq (tmS 19) (tmS i)) ∈ lf_N) := by
  match i, hi with
  | 0, _ => exact Or.inl (List.mem_of_getElem? ne_0_19)
  | 1, _ => exact Or.inl (List.mem_of_getElem? ne_1_19)
  | 2, _ => exact Or.inl (List.mem_of_getElem? ne_2_19)
  | 3, _ => exact Or.inl (List.mem_of_getElem? ne_3_19)
  | 4, _ => exact Or.inl (List.mem_of_getElem? ne_4_19)
  | 5, _ => exact Or.inl (List.mem_of_getElem? ne_5_19)
  | 6, _ => exact Or.inl (List.mem_of_getElem? ne_6_19)
  | 7, _ => exact Or.inl (List.mem_of_getElem? ne_7_19)
  | 8, _ => exact Or.inl (List.mem_of_getElem? ne_8_19)
  | 9, _ => exact Or.inl (List.mem_of_getElem? ne_9_19)
  | 10, _ => exact Or.inl (List.mem_of_getElem? ne_10_19)
  | 11, _ => exact Or.inl (List.mem_of_getElem? ne_11_19)
  | 12, _ => exact Or.inl (List.mem_of_getElem? ne_12_19)
  | 13, _ => exact Or.inl (List.mem_of_getElem? ne_13_19)
  | 14, _ => exact Or.inl (List.mem_of_getElem? ne_14_19)
  | 15, _ => exact Or.inl (List.mem_of_getElem? ne_15_19)
  | 16, _ => exact Or.inl (List.mem_of_getElem? ne_16_19)
  | 17, _ => exact Or.inl (List.mem_of_getElem? ne_17_19)
  | 18, _ => exact Or.inl (List.mem_of_getElem? ne_18_19)
  | i + 19, h => exact absurd h (by omega)
theorem lf_ne_20 (i : Nat) (hi : i < 20) : (Cond.not (Cond.eq (tmS i) (tmS 20)) ∈ lf_N ∨ Cond.not (Cond.eq (tmS 20) (tmS i)) ∈ lf_N) := by
  match i, hi with
  | 0, _ => exact Or.inl (List.mem_of_getElem? ne_0_20)
  | 1, _ => exact Or.inl (List.mem_of_getElem? ne_1_20)
  | 2, _ => exact Or.inl (List.mem_of_getElem? ne_2_20)
  | 3, _ => exact Or.inl (List.mem_of_getElem? ne_3_20)
  | 4, _ => exact Or.inl (List.mem_of_getElem? ne_4_20)
  | 5, _ => exact Or.inl (List.mem_of_getElem? ne_5_20)
  | 6, _ => exact Or.inl (List.mem_of_getElem? ne_6_20)
  | 7, _ => exact Or.inl (List.mem_of_getElem? ne_7_20)
  | 8, _ => exact Or.inl (List.mem_of_getElem? ne_8_20)
  | 9, _ => exact Or.inl (List.mem_of_getElem? ne_9_20)
  | 10, _ => exact Or.inl (List.mem_of_getElem? ne_10_20)
  | 11, _ => exact Or.inl (List.mem_of_getElem? ne_11_20)
  | 12, _ => exact Or.inl (List.mem_of_getElem? ne_12_20)
  | 13, _ => exact Or.inl (List.mem_of_getElem? ne_13_20)
  | 14, _ => exact Or.inl (List.mem_of_getElem? ne_14_20)
  | 15, _ => exact Or.inl (List.mem_of_getElem? ne_15_20)
  | 16, _ => exact Or.inl (List.mem_of_getElem? ne_16_20)
  | 17, _ => exact Or.inl (List.mem_of_getElem? ne_17_20)
  | 18, _ => exact Or.inl (List.mem_of_getElem? ne_18_20)
  | 19, _ => exact Or.inl (List.mem_of_getElem? ne_19_20)
  | i + 20, h => exact absurd h (by omega)
theorem lf_ne_21 (i : Nat) (hi : i < 21) : (Cond.not (Cond.eq (tmS i) (tmS 21)) ∈ lf_N ∨ Cond.not (Cond.eq (tmS 21) (tmS i)) ∈ lf_N) := by
  match i, hi with
  | 0, _ => exact Or.inr (List.mem_of_getElem? ne_21_0)
  | 1, _ => exact Or.inr (List.mem_of_getElem? ne_21_1)
  | 2, _ => exact Or.inr (List.mem_of_getElem? ne_21_2)
  | 3, _ => exact Or.inr (List.mem_of_getElem? ne_21_3)
  | 4, _ => exact Or.inr (List.mem_of_getElem? ne_21_4)
  | 5, _ => exact Or.inr (List.mem_of_getElem? ne_21_5)
  | 6, _ => exact Or.inr (List.mem_of_getElem? ne_21_6)
  | 7, _ => exact Or.inr (List.mem_of_getElem? ne_21_7)
  | 8, _ => exact Or.inr (List.mem_of_getElem? ne_21_8)
  | 9, _ => exact Or.inr (List.mem_of_getElem? ne_21_9)
  | 10, _ => exact Or.inr (List.mem_of_getElem? ne_21_10)
  | 11, _ => exact Or.inr (List.mem_of_getElem? ne_21_11)
  | 12, _ => exact Or.inr (List.mem_of_getElem? ne_21_12)
  | 13, _ => exact Or.inr (List.mem_of_getElem? ne_21_13)
  | 14, _ => exact Or.inr (List.mem_of_getElem? ne_21_14)
  | 15, _ => exact Or.inr (List.mem_of_getElem? ne_21_15)
  | 16, _ => exact Or.inr (List.mem_of_getElem? ne_21_16)
  | 17, _ => exact Or.inr (List.mem_of_getElem? ne_21_17)
  | 18, _ => exact Or.inr (List.mem_of_getElem? ne_21_18)
  | 19, _ => exact Or.inr (List.mem_of_getElem? ne_21_19)
  | 20, _ => exact Or.inr (List.mem_of_getElem? ne_21_20)
  | i + 21, h => exact absurd h (by omega)
theorem lf_lt (i j : Nat) (h : i < j) (hj : j < 22) : (Cond.not (Cond.eq (tmS i) (tmS j)) ∈ lf_N ∨ Cond.not (Cond.eq (tmS j) (tmS i)) ∈ lf_N) := by
  match j, hj, h with
  | 0, _, h => exact absurd h (Nat.not_lt_zero _)
  | 1, _, h => exact lf_ne_1 i h
  | 2, _, h => exact lf_ne_2 i h
  | 3, _, h => exact lf_ne_3 i h
  | 4, _, h => exact lf_ne_4 i h
  | 5, _, h => exact lf_ne_5 i h
  | 6, _, h => exact lf_ne_6 i h
  | 7, _, h => exact lf_ne_7 i h
  | 8, _, h => exact lf_ne_8 i h
  | 9, _, h => exact lf_ne_9 i h
  | 10, _, h => exact lf_ne_10 i h
  | 11, _, h => exact lf_ne_11 i h
  | 12, _, h => exact lf_ne_12 i h
  | 13, _, h => exact lf_ne_13 i h
  | 14, _, h => exact lf_ne_14 i h
  | 15, _, h => exact lf_ne_15 i h
  | 16, _, h => exact lf_ne_16 i h
  | 17, _, h => exact lf_ne_17 i h
  | 18, _, h => exact lf_ne_18 i h
  | 19, _, h => exact lf_ne_19 i h
  | 20, _, h => exact lf_ne_20 i h
  | 21, _, h => exact lf_ne_21 i h
  | j + 22, h, _ => exact absurd h (by omega)
