/-! NUMBERS written in the code -/
set_option maxRecDepth 100000
theorem ic_m1 : Int32.ofInt (-1) = (-1) := by decide +kernel
theorem ic_0 : Int32.ofInt 0 = 0 := by decide +kernel
theorem ic_1 : Int32.ofInt 1 = 1 := by decide +kernel
theorem ic_2 : Int32.ofInt 2 = 2 := by decide +kernel
theorem ic_3 : Int32.ofInt 3 = 3 := by decide +kernel
theorem ic_4 : Int32.ofInt 4 = 4 := by decide +kernel
theorem ic_5 : Int32.ofInt 5 = 5 := by decide +kernel
theorem bp_m128 : (Int8.ofInt (-128)).toInt32 = (-128) := by decide +kernel
theorem bp_m65 : (Int8.ofInt (-65)).toInt32 = (-65) := by decide +kernel
theorem bp_m32 : (Int8.ofInt (-32)).toInt32 = (-32) := by decide +kernel
theorem bp_m17 : (Int8.ofInt (-17)).toInt32 = (-17) := by decide +kernel
theorem bp_m16 : (Int8.ofInt (-16)).toInt32 = (-16) := by decide +kernel
theorem bp_m12 : (Int8.ofInt (-12)).toInt32 = (-12) := by decide +kernel
theorem bp_m3 : (Int8.ofInt (-3)).toInt32 = (-3) := by decide +kernel
theorem bp_m2 : (Int8.ofInt (-2)).toInt32 = (-2) := by decide +kernel
theorem bp_6 : (Int8.ofInt 6).toInt32 = 6 := by decide +kernel
theorem bp_7 : (Int8.ofInt 7).toInt32 = 7 := by decide +kernel
theorem bp_8 : (Int8.ofInt 8).toInt32 = 8 := by decide +kernel
theorem bp_9 : (Int8.ofInt 9).toInt32 = 9 := by decide +kernel
theorem bp_10 : (Int8.ofInt 10).toInt32 = 10 := by decide +kernel
theorem bp_11 : (Int8.ofInt 11).toInt32 = 11 := by decide +kernel
theorem bp_12 : (Int8.ofInt 12).toInt32 = 12 := by decide +kernel
theorem bp_13 : (Int8.ofInt 13).toInt32 = 13 := by decide +kernel
theorem bp_14 : (Int8.ofInt 14).toInt32 = 14 := by decide +kernel
theorem bp_15 : (Int8.ofInt 15).toInt32 = 15 := by decide +kernel
theorem bp_16 : (Int8.ofInt 16).toInt32 = 16 := by decide +kernel
theorem bp_17 : (Int8.ofInt 17).toInt32 = 17 := by decide +kernel
theorem bp_18 : (Int8.ofInt 18).toInt32 = 18 := by decide +kernel
theorem bp_19 : (Int8.ofInt 19).toInt32 = 19 := by decide +kernel
theorem bp_20 : (Int8.ofInt 20).toInt32 = 20 := by decide +kernel
theorem bp_21 : (Int8.ofInt 21).toInt32 = 21 := by decide +kernel
theorem bp_22 : (Int8.ofInt 22).toInt32 = 22 := by decide +kernel
theorem bp_23 : (Int8.ofInt 23).toInt32 = 23 := by decide +kernel
theorem bp_24 : (Int8.ofInt 24).toInt32 = 24 := by decide +kernel
theorem bp_25 : (Int8.ofInt 25).toInt32 = 25 := by decide +kernel
theorem bp_26 : (Int8.ofInt 26).toInt32 = 26 := by decide +kernel
theorem bp_27 : (Int8.ofInt 27).toInt32 = 27 := by decide +kernel
theorem bp_28 : (Int8.ofInt 28).toInt32 = 28 := by decide +kernel
theorem bp_29 : (Int8.ofInt 29).toInt32 = 29 := by decide +kernel
theorem bp_30 : (Int8.ofInt 30).toInt32 = 30 := by decide +kernel
theorem bp_31 : (Int8.ofInt 31).toInt32 = 31 := by decide +kernel
theorem bp_32 : (Int8.ofInt 32).toInt32 = 32 := by decide +kernel
theorem bp_33 : (Int8.ofInt 33).toInt32 = 33 := by decide +kernel
theorem bp_34 : (Int8.ofInt 34).toInt32 = 34 := by decide +kernel
theorem bp_35 : (Int8.ofInt 35).toInt32 = 35 := by decide +kernel
theorem bp_36 : (Int8.ofInt 36).toInt32 = 36 := by decide +kernel
theorem bp_37 : (Int8.ofInt 37).toInt32 = 37 := by decide +kernel
theorem bp_38 : (Int8.ofInt 38).toInt32 = 38 := by decide +kernel
theorem bp_39 : (Int8.ofInt 39).toInt32 = 39 := by decide +kernel
theorem bp_40 : (Int8.ofInt 40).toInt32 = 40 := by decide +kernel
theorem bp_41 : (Int8.ofInt 41).toInt32 = 41 := by decide +kernel
theorem bp_42 : (Int8.ofInt 42).toInt32 = 42 := by decide +kernel
theorem bp_43 : (Int8.ofInt 43).toInt32 = 43 := by decide +kernel
theorem bp_44 : (Int8.ofInt 44).toInt32 = 44 := by decide +kernel
theorem bp_45 : (Int8.ofInt 45).toInt32 = 45 := by decide +kernel
theorem bp_46 : (Int8.ofInt 46).toInt32 = 46 := by decide +kernel
theorem bp_47 : (Int8.ofInt 47).toInt32 = 47 := by decide +kernel
theorem bp_48 : (Int8.ofInt 48).toInt32 = 48 := by decide +kernel
theorem bp_49 : (Int8.ofInt 49).toInt32 = 49 := by decide +kernel
theorem bp_50 : (Int8.ofInt 50).toInt32 = 50 := by decide +kernel
theorem bp_51 : (Int8.ofInt 51).toInt32 = 51 := by decide +kernel
theorem bp_52 : (Int8.ofInt 52).toInt32 = 52 := by decide +kernel
theorem bp_53 : (Int8.ofInt 53).toInt32 = 53 := by decide +kernel
theorem bp_54 : (Int8.ofInt 54).toInt32 = 54 := by decide +kernel
theorem bp_55 : (Int8.ofInt 55).toInt32 = 55 := by decide +kernel
theorem bp_56 : (Int8.ofInt 56).toInt32 = 56 := by decide +kernel
theorem bp_57 : (Int8.ofInt 57).toInt32 = 57 := by decide +kernel
theorem bp_58 : (Int8.ofInt 58).toInt32 = 58 := by decide +kernel
theorem bp_59 : (Int8.ofInt 59).toInt32 = 59 := by decide +kernel
theorem bp_60 : (Int8.ofInt 60).toInt32 = 60 := by decide +kernel
theorem bp_61 : (Int8.ofInt 61).toInt32 = 61 := by decide +kernel
theorem bp_62 : (Int8.ofInt 62).toInt32 = 62 := by decide +kernel
theorem bp_63 : (Int8.ofInt 63).toInt32 = 63 := by decide +kernel
theorem bp_64 : (Int8.ofInt 64).toInt32 = 64 := by decide +kernel
theorem bp_65 : (Int8.ofInt 65).toInt32 = 65 := by decide +kernel
theorem bp_66 : (Int8.ofInt 66).toInt32 = 66 := by decide +kernel
theorem bp_67 : (Int8.ofInt 67).toInt32 = 67 := by decide +kernel
theorem bp_68 : (Int8.ofInt 68).toInt32 = 68 := by decide +kernel
theorem bp_69 : (Int8.ofInt 69).toInt32 = 69 := by decide +kernel
theorem bp_70 : (Int8.ofInt 70).toInt32 = 70 := by decide +kernel
theorem bp_71 : (Int8.ofInt 71).toInt32 = 71 := by decide +kernel
theorem bp_72 : (Int8.ofInt 72).toInt32 = 72 := by decide +kernel
theorem bp_73 : (Int8.ofInt 73).toInt32 = 73 := by decide +kernel
theorem bp_74 : (Int8.ofInt 74).toInt32 = 74 := by decide +kernel
theorem bp_75 : (Int8.ofInt 75).toInt32 = 75 := by decide +kernel
theorem bp_76 : (Int8.ofInt 76).toInt32 = 76 := by decide +kernel
theorem bp_77 : (Int8.ofInt 77).toInt32 = 77 := by decide +kernel
theorem bp_78 : (Int8.ofInt 78).toInt32 = 78 := by decide +kernel
theorem bp_79 : (Int8.ofInt 79).toInt32 = 79 := by decide +kernel
theorem bp_80 : (Int8.ofInt 80).toInt32 = 80 := by decide +kernel
theorem bp_81 : (Int8.ofInt 81).toInt32 = 81 := by decide +kernel
theorem bp_82 : (Int8.ofInt 82).toInt32 = 82 := by decide +kernel
theorem bp_83 : (Int8.ofInt 83).toInt32 = 83 := by decide +kernel
theorem bp_84 : (Int8.ofInt 84).toInt32 = 84 := by decide +kernel
theorem bp_85 : (Int8.ofInt 85).toInt32 = 85 := by decide +kernel
theorem bp_86 : (Int8.ofInt 86).toInt32 = 86 := by decide +kernel
theorem bp_87 : (Int8.ofInt 87).toInt32 = 87 := by decide +kernel
theorem bp_88 : (Int8.ofInt 88).toInt32 = 88 := by decide +kernel
theorem bp_89 : (Int8.ofInt 89).toInt32 = 89 := by decide +kernel
theorem bp_90 : (Int8.ofInt 90).toInt32 = 90 := by decide +kernel
theorem bp_91 : (Int8.ofInt 91).toInt32 = 91 := by decide +kernel
theorem bp_92 : (Int8.ofInt 92).toInt32 = 92 := by decide +kernel
theorem bp_93 : (Int8.ofInt 93).toInt32 = 93 := by decide +kernel
theorem bp_94 : (Int8.ofInt 94).toInt32 = 94 := by decide +kernel
theorem bp_95 : (Int8.ofInt 95).toInt32 = 95 := by decide +kernel
theorem bp_96 : (Int8.ofInt 96).toInt32 = 96 := by decide +kernel
theorem bp_97 : (Int8.ofInt 97).toInt32 = 97 := by decide +kernel
theorem bp_98 : (Int8.ofInt 98).toInt32 = 98 := by decide +kernel
theorem bp_99 : (Int8.ofInt 99).toInt32 = 99 := by decide +kernel
theorem bp_100 : (Int8.ofInt 100).toInt32 = 100 := by decide +kernel
theorem bp_101 : (Int8.ofInt 101).toInt32 = 101 := by decide +kernel
theorem bp_102 : (Int8.ofInt 102).toInt32 = 102 := by decide +kernel
theorem bp_103 : (Int8.ofInt 103).toInt32 = 103 := by decide +kernel
theorem bp_104 : (Int8.ofInt 104).toInt32 = 104 := by decide +kernel
theorem bp_105 : (Int8.ofInt 105).toInt32 = 105 := by decide +kernel
theorem bp_106 : (Int8.ofInt 106).toInt32 = 106 := by decide +kernel
theorem bp_107 : (Int8.ofInt 107).toInt32 = 107 := by decide +kernel
theorem bp_108 : (Int8.ofInt 108).toInt32 = 108 := by decide +kernel
theorem bp_109 : (Int8.ofInt 109).toInt32 = 109 := by decide +kernel
theorem bp_110 : (Int8.ofInt 110).toInt32 = 110 := by decide +kernel
theorem bp_111 : (Int8.ofInt 111).toInt32 = 111 := by decide +kernel
theorem bp_112 : (Int8.ofInt 112).toInt32 = 112 := by decide +kernel
theorem bp_113 : (Int8.ofInt 113).toInt32 = 113 := by decide +kernel
theorem bp_114 : (Int8.ofInt 114).toInt32 = 114 := by decide +kernel
theorem bp_115 : (Int8.ofInt 115).toInt32 = 115 := by decide +kernel
theorem bp_116 : (Int8.ofInt 116).toInt32 = 116 := by decide +kernel
theorem bp_117 : (Int8.ofInt 117).toInt32 = 117 := by decide +kernel
theorem bp_118 : (Int8.ofInt 118).toInt32 = 118 := by decide +kernel
theorem bp_119 : (Int8.ofInt 119).toInt32 = 119 := by decide +kernel
theorem bp_120 : (Int8.ofInt 120).toInt32 = 120 := by decide +kernel
theorem bp_121 : (Int8.ofInt 121).toInt32 = 121 := by decide +kernel
theorem bp_122 : (Int8.ofInt 122).toInt32 = 122 := by decide +kernel
theorem bp_123 : (Int8.ofInt 123).toInt32 = 123 := by decide +kernel
theorem bp_124 : (Int8.ofInt 124).toInt32 = 124 := by decide +kernel
theorem bp_125 : (Int8.ofInt 125).toInt32 = 125 := by decide +kernel
theorem bp_126 : (Int8.ofInt 126).toInt32 = 126 := by decide +kernel
theorem bp_127 : (Int8.ofInt 127).toInt32 = 127 := by decide +kernel
theorem sp_128 : (Int16.ofInt 128).toInt32 = 128 := by decide +kernel
theorem sp_129 : (Int16.ofInt 129).toInt32 = 129 := by decide +kernel
theorem sp_130 : (Int16.ofInt 130).toInt32 = 130 := by decide +kernel
theorem sp_131 : (Int16.ofInt 131).toInt32 = 131 := by decide +kernel
theorem sp_132 : (Int16.ofInt 132).toInt32 = 132 := by decide +kernel
theorem sp_133 : (Int16.ofInt 133).toInt32 = 133 := by decide +kernel
theorem sp_134 : (Int16.ofInt 134).toInt32 = 134 := by decide +kernel
theorem sp_135 : (Int16.ofInt 135).toInt32 = 135 := by decide +kernel
theorem sp_136 : (Int16.ofInt 136).toInt32 = 136 := by decide +kernel
theorem sp_137 : (Int16.ofInt 137).toInt32 = 137 := by decide +kernel
theorem sp_138 : (Int16.ofInt 138).toInt32 = 138 := by decide +kernel
theorem sp_139 : (Int16.ofInt 139).toInt32 = 139 := by decide +kernel
theorem sp_140 : (Int16.ofInt 140).toInt32 = 140 := by decide +kernel
theorem sp_141 : (Int16.ofInt 141).toInt32 = 141 := by decide +kernel
theorem sp_142 : (Int16.ofInt 142).toInt32 = 142 := by decide +kernel
theorem sp_143 : (Int16.ofInt 143).toInt32 = 143 := by decide +kernel
theorem sp_144 : (Int16.ofInt 144).toInt32 = 144 := by decide +kernel
theorem sp_145 : (Int16.ofInt 145).toInt32 = 145 := by decide +kernel
theorem sp_146 : (Int16.ofInt 146).toInt32 = 146 := by decide +kernel
theorem sp_147 : (Int16.ofInt 147).toInt32 = 147 := by decide +kernel
theorem sp_148 : (Int16.ofInt 148).toInt32 = 148 := by decide +kernel
theorem sp_149 : (Int16.ofInt 149).toInt32 = 149 := by decide +kernel
theorem sp_150 : (Int16.ofInt 150).toInt32 = 150 := by decide +kernel
theorem sp_151 : (Int16.ofInt 151).toInt32 = 151 := by decide +kernel
theorem sp_152 : (Int16.ofInt 152).toInt32 = 152 := by decide +kernel
theorem sp_153 : (Int16.ofInt 153).toInt32 = 153 := by decide +kernel
theorem sp_154 : (Int16.ofInt 154).toInt32 = 154 := by decide +kernel
theorem sp_155 : (Int16.ofInt 155).toInt32 = 155 := by decide +kernel
theorem sp_156 : (Int16.ofInt 156).toInt32 = 156 := by decide +kernel
theorem sp_157 : (Int16.ofInt 157).toInt32 = 157 := by decide +kernel
theorem sp_158 : (Int16.ofInt 158).toInt32 = 158 := by decide +kernel
theorem sp_159 : (Int16.ofInt 159).toInt32 = 159 := by decide +kernel
theorem sp_160 : (Int16.ofInt 160).toInt32 = 160 := by decide +kernel
theorem sp_161 : (Int16.ofInt 161).toInt32 = 161 := by decide +kernel
theorem sp_162 : (Int16.ofInt 162).toInt32 = 162 := by decide +kernel
theorem sp_163 : (Int16.ofInt 163).toInt32 = 163 := by decide +kernel
theorem sp_164 : (Int16.ofInt 164).toInt32 = 164 := by decide +kernel
theorem sp_165 : (Int16.ofInt 165).toInt32 = 165 := by decide +kernel
theorem sp_166 : (Int16.ofInt 166).toInt32 = 166 := by decide +kernel
theorem sp_167 : (Int16.ofInt 167).toInt32 = 167 := by decide +kernel
theorem sp_168 : (Int16.ofInt 168).toInt32 = 168 := by decide +kernel
theorem sp_169 : (Int16.ofInt 169).toInt32 = 169 := by decide +kernel
theorem sp_170 : (Int16.ofInt 170).toInt32 = 170 := by decide +kernel
theorem sp_171 : (Int16.ofInt 171).toInt32 = 171 := by decide +kernel
theorem sp_172 : (Int16.ofInt 172).toInt32 = 172 := by decide +kernel
theorem sp_173 : (Int16.ofInt 173).toInt32 = 173 := by decide +kernel
theorem sp_174 : (Int16.ofInt 174).toInt32 = 174 := by decide +kernel
theorem sp_175 : (Int16.ofInt 175).toInt32 = 175 := by decide +kernel
theorem sp_176 : (Int16.ofInt 176).toInt32 = 176 := by decide +kernel
theorem sp_177 : (Int16.ofInt 177).toInt32 = 177 := by decide +kernel
theorem sp_178 : (Int16.ofInt 178).toInt32 = 178 := by decide +kernel
theorem sp_179 : (Int16.ofInt 179).toInt32 = 179 := by decide +kernel
theorem sp_180 : (Int16.ofInt 180).toInt32 = 180 := by decide +kernel
theorem sp_181 : (Int16.ofInt 181).toInt32 = 181 := by decide +kernel
theorem sp_182 : (Int16.ofInt 182).toInt32 = 182 := by decide +kernel
theorem sp_189 : (Int16.ofInt 189).toInt32 = 189 := by decide +kernel
theorem sp_191 : (Int16.ofInt 191).toInt32 = 191 := by decide +kernel
theorem sp_192 : (Int16.ofInt 192).toInt32 = 192 := by decide +kernel
theorem sp_193 : (Int16.ofInt 193).toInt32 = 193 := by decide +kernel
theorem sp_194 : (Int16.ofInt 194).toInt32 = 194 := by decide +kernel
theorem sp_196 : (Int16.ofInt 196).toInt32 = 196 := by decide +kernel
theorem sp_197 : (Int16.ofInt 197).toInt32 = 197 := by decide +kernel
theorem sp_198 : (Int16.ofInt 198).toInt32 = 198 := by decide +kernel
theorem sp_223 : (Int16.ofInt 223).toInt32 = 223 := by decide +kernel
theorem sp_224 : (Int16.ofInt 224).toInt32 = 224 := by decide +kernel
theorem sp_239 : (Int16.ofInt 239).toInt32 = 239 := by decide +kernel
theorem sp_240 : (Int16.ofInt 240).toInt32 = 240 := by decide +kernel
theorem sp_244 : (Int16.ofInt 244).toInt32 = 244 := by decide +kernel
theorem sp_247 : (Int16.ofInt 247).toInt32 = 247 := by decide +kernel
theorem sp_251 : (Int16.ofInt 251).toInt32 = 251 := by decide +kernel
theorem sp_253 : (Int16.ofInt 253).toInt32 = 253 := by decide +kernel
theorem sp_254 : (Int16.ofInt 254).toInt32 = 254 := by decide +kernel
theorem sp_255 : (Int16.ofInt 255).toInt32 = 255 := by decide +kernel
theorem sp_256 : (Int16.ofInt 256).toInt32 = 256 := by decide +kernel
theorem sp_300 : (Int16.ofInt 300).toInt32 = 300 := by decide +kernel
theorem sp_508 : (Int16.ofInt 508).toInt32 = 508 := by decide +kernel
theorem sp_512 : (Int16.ofInt 512).toInt32 = 512 := by decide +kernel
theorem sp_1000 : (Int16.ofInt 1000).toInt32 = 1000 := by decide +kernel
theorem sp_1023 : (Int16.ofInt 1023).toInt32 = 1023 := by decide +kernel
theorem sp_1024 : (Int16.ofInt 1024).toInt32 = 1024 := by decide +kernel
theorem sp_1280 : (Int16.ofInt 1280).toInt32 = 1280 := by decide +kernel
theorem sp_1536 : (Int16.ofInt 1536).toInt32 = 1536 := by decide +kernel
theorem sp_1596 : (Int16.ofInt 1596).toInt32 = 1596 := by decide +kernel
theorem sp_1656 : (Int16.ofInt 1656).toInt32 = 1656 := by decide +kernel
theorem sp_1716 : (Int16.ofInt 1716).toInt32 = 1716 := by decide +kernel
theorem sp_2047 : (Int16.ofInt 2047).toInt32 = 2047 := by decide +kernel
theorem sp_2048 : (Int16.ofInt 2048).toInt32 = 2048 := by decide +kernel
theorem sp_3400 : (Int16.ofInt 3400).toInt32 = 3400 := by decide +kernel
theorem sp_4078 : (Int16.ofInt 4078).toInt32 = 4078 := by decide +kernel
theorem sp_4095 : (Int16.ofInt 4095).toInt32 = 4095 := by decide +kernel
theorem sp_4096 : (Int16.ofInt 4096).toInt32 = 4096 := by decide +kernel
theorem sp_5000 : (Int16.ofInt 5000).toInt32 = 5000 := by decide +kernel
theorem sp_8000 : (Int16.ofInt 8000).toInt32 = 8000 := by decide +kernel
theorem sp_8191 : (Int16.ofInt 8191).toInt32 = 8191 := by decide +kernel
theorem sp_8961 : (Int16.ofInt 8961).toInt32 = 8961 := by decide +kernel
theorem sp_9233 : (Int16.ofInt 9233).toInt32 = 9233 := by decide +kernel
theorem sp_10096 : (Int16.ofInt 10096).toInt32 = 10096 := by decide +kernel
theorem sp_10103 : (Int16.ofInt 10103).toInt32 = 10103 := by decide +kernel
theorem sp_10222 : (Int16.ofInt 10222).toInt32 = 10222 := by decide +kernel
theorem sp_10239 : (Int16.ofInt 10239).toInt32 = 10239 := by decide +kernel
theorem sp_11079 : (Int16.ofInt 11079).toInt32 = 11079 := by decide +kernel
theorem sp_12072 : (Int16.ofInt 12072).toInt32 = 12072 := by decide +kernel
theorem sp_12096 : (Int16.ofInt 12096).toInt32 = 12096 := by decide +kernel
theorem sp_12112 : (Int16.ofInt 12112).toInt32 = 12112 := by decide +kernel
theorem sp_12128 : (Int16.ofInt 12128).toInt32 = 12128 := by decide +kernel
theorem sp_12160 : (Int16.ofInt 12160).toInt32 = 12160 := by decide +kernel
theorem sp_12176 : (Int16.ofInt 12176).toInt32 = 12176 := by decide +kernel
theorem sp_12438 : (Int16.ofInt 12438).toInt32 = 12438 := by decide +kernel
theorem sp_12800 : (Int16.ofInt 12800).toInt32 = 12800 := by decide +kernel
theorem sp_13056 : (Int16.ofInt 13056).toInt32 = 13056 := by decide +kernel
theorem sp_13392 : (Int16.ofInt 13392).toInt32 = 13392 := by decide +kernel
theorem sp_13414 : (Int16.ofInt 13414).toInt32 = 13414 := by decide +kernel
theorem sp_13569 : (Int16.ofInt 13569).toInt32 = 13569 := by decide +kernel
theorem sp_13573 : (Int16.ofInt 13573).toInt32 = 13573 := by decide +kernel
theorem sp_13828 : (Int16.ofInt 13828).toInt32 = 13828 := by decide +kernel
theorem sp_14084 : (Int16.ofInt 14084).toInt32 = 14084 := by decide +kernel
theorem sp_14085 : (Int16.ofInt 14085).toInt32 = 14085 := by decide +kernel
theorem sp_16143 : (Int16.ofInt 16143).toInt32 = 16143 := by decide +kernel
theorem sp_16624 : (Int16.ofInt 16624).toInt32 = 16624 := by decide +kernel
theorem sp_21728 : (Int16.ofInt 21728).toInt32 = 21728 := by decide +kernel
theorem sp_28975 : (Int16.ofInt 28975).toInt32 = 28975 := by decide +kernel
theorem rl_m128 : rg (-128) (-128) (-128) := rgl (by decide +kernel)
theorem rl_m65 : rg (-65) (-65) (-65) := rgl (by decide +kernel)
theorem rl_m32 : rg (-32) (-32) (-32) := rgl (by decide +kernel)
theorem rl_m17 : rg (-17) (-17) (-17) := rgl (by decide +kernel)
theorem rl_m16 : rg (-16) (-16) (-16) := rgl (by decide +kernel)
theorem rl_m12 : rg (-12) (-12) (-12) := rgl (by decide +kernel)
theorem rl_m3 : rg (-3) (-3) (-3) := rgl (by decide +kernel)
theorem rl_m2 : rg (-2) (-2) (-2) := rgl (by decide +kernel)
theorem rl_m1 : rg (-1) (-1) (-1) := rgl (by decide +kernel)
theorem rl_0 : rg 0 0 0 := rgl (by decide +kernel)
theorem cl_0 : (0 : Int32).toNatClampNeg = 0 := by decide +kernel
theorem rl_1 : rg 1 1 1 := rgl (by decide +kernel)
theorem cl_1 : (1 : Int32).toNatClampNeg = 1 := by decide +kernel
theorem rl_2 : rg 2 2 2 := rgl (by decide +kernel)
theorem cl_2 : (2 : Int32).toNatClampNeg = 2 := by decide +kernel
theorem rl_3 : rg 3 3 3 := rgl (by decide +kernel)
theorem cl_3 : (3 : Int32).toNatClampNeg = 3 := by decide +kernel
theorem rl_4 : rg 4 4 4 := rgl (by decide +kernel)
theorem cl_4 : (4 : Int32).toNatClampNeg = 4 := by decide +kernel
theorem rl_5 : rg 5 5 5 := rgl (by decide +kernel)
theorem cl_5 : (5 : Int32).toNatClampNeg = 5 := by decide +kernel
theorem rl_6 : rg 6 6 6 := rgl (by decide +kernel)
theorem cl_6 : (6 : Int32).toNatClampNeg = 6 := by decide +kernel
theorem rl_7 : rg 7 7 7 := rgl (by decide +kernel)
theorem cl_7 : (7 : Int32).toNatClampNeg = 7 := by decide +kernel
theorem rl_8 : rg 8 8 8 := rgl (by decide +kernel)
theorem cl_8 : (8 : Int32).toNatClampNeg = 8 := by decide +kernel
theorem rl_9 : rg 9 9 9 := rgl (by decide +kernel)
theorem cl_9 : (9 : Int32).toNatClampNeg = 9 := by decide +kernel
theorem rl_10 : rg 10 10 10 := rgl (by decide +kernel)
theorem cl_10 : (10 : Int32).toNatClampNeg = 10 := by decide +kernel
theorem rl_11 : rg 11 11 11 := rgl (by decide +kernel)
theorem cl_11 : (11 : Int32).toNatClampNeg = 11 := by decide +kernel
theorem rl_12 : rg 12 12 12 := rgl (by decide +kernel)
theorem cl_12 : (12 : Int32).toNatClampNeg = 12 := by decide +kernel
theorem rl_13 : rg 13 13 13 := rgl (by decide +kernel)
theorem cl_13 : (13 : Int32).toNatClampNeg = 13 := by decide +kernel
theorem rl_14 : rg 14 14 14 := rgl (by decide +kernel)
theorem cl_14 : (14 : Int32).toNatClampNeg = 14 := by decide +kernel
theorem rl_15 : rg 15 15 15 := rgl (by decide +kernel)
theorem cl_15 : (15 : Int32).toNatClampNeg = 15 := by decide +kernel
theorem rl_16 : rg 16 16 16 := rgl (by decide +kernel)
theorem cl_16 : (16 : Int32).toNatClampNeg = 16 := by decide +kernel
theorem rl_17 : rg 17 17 17 := rgl (by decide +kernel)
theorem cl_17 : (17 : Int32).toNatClampNeg = 17 := by decide +kernel
theorem rl_18 : rg 18 18 18 := rgl (by decide +kernel)
theorem cl_18 : (18 : Int32).toNatClampNeg = 18 := by decide +kernel
theorem rl_19 : rg 19 19 19 := rgl (by decide +kernel)
theorem cl_19 : (19 : Int32).toNatClampNeg = 19 := by decide +kernel
theorem rl_20 : rg 20 20 20 := rgl (by decide +kernel)
theorem cl_20 : (20 : Int32).toNatClampNeg = 20 := by decide +kernel
theorem rl_21 : rg 21 21 21 := rgl (by decide +kernel)
theorem cl_21 : (21 : Int32).toNatClampNeg = 21 := by decide +kernel
theorem rl_22 : rg 22 22 22 := rgl (by decide +kernel)
theorem cl_22 : (22 : Int32).toNatClampNeg = 22 := by decide +kernel
theorem rl_23 : rg 23 23 23 := rgl (by decide +kernel)
theorem cl_23 : (23 : Int32).toNatClampNeg = 23 := by decide +kernel
theorem rl_24 : rg 24 24 24 := rgl (by decide +kernel)
theorem cl_24 : (24 : Int32).toNatClampNeg = 24 := by decide +kernel
theorem rl_25 : rg 25 25 25 := rgl (by decide +kernel)
theorem cl_25 : (25 : Int32).toNatClampNeg = 25 := by decide +kernel
theorem rl_26 : rg 26 26 26 := rgl (by decide +kernel)
theorem cl_26 : (26 : Int32).toNatClampNeg = 26 := by decide +kernel
theorem rl_27 : rg 27 27 27 := rgl (by decide +kernel)
theorem cl_27 : (27 : Int32).toNatClampNeg = 27 := by decide +kernel
theorem rl_28 : rg 28 28 28 := rgl (by decide +kernel)
theorem cl_28 : (28 : Int32).toNatClampNeg = 28 := by decide +kernel
theorem rl_29 : rg 29 29 29 := rgl (by decide +kernel)
theorem cl_29 : (29 : Int32).toNatClampNeg = 29 := by decide +kernel
theorem rl_30 : rg 30 30 30 := rgl (by decide +kernel)
theorem cl_30 : (30 : Int32).toNatClampNeg = 30 := by decide +kernel
theorem rl_31 : rg 31 31 31 := rgl (by decide +kernel)
theorem cl_31 : (31 : Int32).toNatClampNeg = 31 := by decide +kernel
theorem rl_32 : rg 32 32 32 := rgl (by decide +kernel)
theorem cl_32 : (32 : Int32).toNatClampNeg = 32 := by decide +kernel
theorem rl_33 : rg 33 33 33 := rgl (by decide +kernel)
theorem cl_33 : (33 : Int32).toNatClampNeg = 33 := by decide +kernel
theorem rl_34 : rg 34 34 34 := rgl (by decide +kernel)
theorem cl_34 : (34 : Int32).toNatClampNeg = 34 := by decide +kernel
theorem rl_35 : rg 35 35 35 := rgl (by decide +kernel)
theorem cl_35 : (35 : Int32).toNatClampNeg = 35 := by decide +kernel
theorem rl_36 : rg 36 36 36 := rgl (by decide +kernel)
theorem cl_36 : (36 : Int32).toNatClampNeg = 36 := by decide +kernel
theorem rl_37 : rg 37 37 37 := rgl (by decide +kernel)
theorem cl_37 : (37 : Int32).toNatClampNeg = 37 := by decide +kernel
theorem rl_38 : rg 38 38 38 := rgl (by decide +kernel)
theorem cl_38 : (38 : Int32).toNatClampNeg = 38 := by decide +kernel
theorem rl_39 : rg 39 39 39 := rgl (by decide +kernel)
theorem cl_39 : (39 : Int32).toNatClampNeg = 39 := by decide +kernel
theorem rl_40 : rg 40 40 40 := rgl (by decide +kernel)
theorem cl_40 : (40 : Int32).toNatClampNeg = 40 := by decide +kernel
theorem rl_41 : rg 41 41 41 := rgl (by decide +kernel)
theorem cl_41 : (41 : Int32).toNatClampNeg = 41 := by decide +kernel
theorem rl_42 : rg 42 42 42 := rgl (by decide +kernel)
theorem cl_42 : (42 : Int32).toNatClampNeg = 42 := by decide +kernel
theorem rl_43 : rg 43 43 43 := rgl (by decide +kernel)
theorem cl_43 : (43 : Int32).toNatClampNeg = 43 := by decide +kernel
theorem rl_44 : rg 44 44 44 := rgl (by decide +kernel)
theorem cl_44 : (44 : Int32).toNatClampNeg = 44 := by decide +kernel
theorem rl_45 : rg 45 45 45 := rgl (by decide +kernel)
theorem cl_45 : (45 : Int32).toNatClampNeg = 45 := by decide +kernel
theorem rl_46 : rg 46 46 46 := rgl (by decide +kernel)
theorem cl_46 : (46 : Int32).toNatClampNeg = 46 := by decide +kernel
theorem rl_47 : rg 47 47 47 := rgl (by decide +kernel)
theorem cl_47 : (47 : Int32).toNatClampNeg = 47 := by decide +kernel
theorem rl_48 : rg 48 48 48 := rgl (by decide +kernel)
theorem cl_48 : (48 : Int32).toNatClampNeg = 48 := by decide +kernel
theorem rl_49 : rg 49 49 49 := rgl (by decide +kernel)
theorem cl_49 : (49 : Int32).toNatClampNeg = 49 := by decide +kernel
theorem rl_50 : rg 50 50 50 := rgl (by decide +kernel)
theorem cl_50 : (50 : Int32).toNatClampNeg = 50 := by decide +kernel
theorem rl_51 : rg 51 51 51 := rgl (by decide +kernel)
theorem cl_51 : (51 : Int32).toNatClampNeg = 51 := by decide +kernel
theorem rl_52 : rg 52 52 52 := rgl (by decide +kernel)
theorem cl_52 : (52 : Int32).toNatClampNeg = 52 := by decide +kernel
theorem rl_53 : rg 53 53 53 := rgl (by decide +kernel)
theorem cl_53 : (53 : Int32).toNatClampNeg = 53 := by decide +kernel
theorem rl_54 : rg 54 54 54 := rgl (by decide +kernel)
theorem cl_54 : (54 : Int32).toNatClampNeg = 54 := by decide +kernel
theorem rl_55 : rg 55 55 55 := rgl (by decide +kernel)
theorem cl_55 : (55 : Int32).toNatClampNeg = 55 := by decide +kernel
theorem rl_56 : rg 56 56 56 := rgl (by decide +kernel)
theorem cl_56 : (56 : Int32).toNatClampNeg = 56 := by decide +kernel
theorem rl_57 : rg 57 57 57 := rgl (by decide +kernel)
theorem cl_57 : (57 : Int32).toNatClampNeg = 57 := by decide +kernel
theorem rl_58 : rg 58 58 58 := rgl (by decide +kernel)
theorem cl_58 : (58 : Int32).toNatClampNeg = 58 := by decide +kernel
theorem rl_59 : rg 59 59 59 := rgl (by decide +kernel)
theorem cl_59 : (59 : Int32).toNatClampNeg = 59 := by decide +kernel
theorem rl_60 : rg 60 60 60 := rgl (by decide +kernel)
theorem cl_60 : (60 : Int32).toNatClampNeg = 60 := by decide +kernel
theorem rl_61 : rg 61 61 61 := rgl (by decide +kernel)
theorem cl_61 : (61 : Int32).toNatClampNeg = 61 := by decide +kernel
theorem rl_62 : rg 62 62 62 := rgl (by decide +kernel)
theorem cl_62 : (62 : Int32).toNatClampNeg = 62 := by decide +kernel
theorem rl_63 : rg 63 63 63 := rgl (by decide +kernel)
theorem cl_63 : (63 : Int32).toNatClampNeg = 63 := by decide +kernel
theorem rl_64 : rg 64 64 64 := rgl (by decide +kernel)
theorem cl_64 : (64 : Int32).toNatClampNeg = 64 := by decide +kernel
theorem rl_65 : rg 65 65 65 := rgl (by decide +kernel)
theorem cl_65 : (65 : Int32).toNatClampNeg = 65 := by decide +kernel
theorem rl_66 : rg 66 66 66 := rgl (by decide +kernel)
theorem cl_66 : (66 : Int32).toNatClampNeg = 66 := by decide +kernel
theorem rl_67 : rg 67 67 67 := rgl (by decide +kernel)
theorem cl_67 : (67 : Int32).toNatClampNeg = 67 := by decide +kernel
theorem rl_68 : rg 68 68 68 := rgl (by decide +kernel)
theorem cl_68 : (68 : Int32).toNatClampNeg = 68 := by decide +kernel
theorem rl_69 : rg 69 69 69 := rgl (by decide +kernel)
theorem cl_69 : (69 : Int32).toNatClampNeg = 69 := by decide +kernel
theorem rl_70 : rg 70 70 70 := rgl (by decide +kernel)
theorem cl_70 : (70 : Int32).toNatClampNeg = 70 := by decide +kernel
theorem rl_71 : rg 71 71 71 := rgl (by decide +kernel)
theorem cl_71 : (71 : Int32).toNatClampNeg = 71 := by decide +kernel
theorem rl_72 : rg 72 72 72 := rgl (by decide +kernel)
theorem cl_72 : (72 : Int32).toNatClampNeg = 72 := by decide +kernel
theorem rl_73 : rg 73 73 73 := rgl (by decide +kernel)
theorem cl_73 : (73 : Int32).toNatClampNeg = 73 := by decide +kernel
theorem rl_74 : rg 74 74 74 := rgl (by decide +kernel)
theorem cl_74 : (74 : Int32).toNatClampNeg = 74 := by decide +kernel
theorem rl_75 : rg 75 75 75 := rgl (by decide +kernel)
theorem cl_75 : (75 : Int32).toNatClampNeg = 75 := by decide +kernel
theorem rl_76 : rg 76 76 76 := rgl (by decide +kernel)
theorem cl_76 : (76 : Int32).toNatClampNeg = 76 := by decide +kernel
theorem rl_77 : rg 77 77 77 := rgl (by decide +kernel)
theorem cl_77 : (77 : Int32).toNatClampNeg = 77 := by decide +kernel
theorem rl_78 : rg 78 78 78 := rgl (by decide +kernel)
theorem cl_78 : (78 : Int32).toNatClampNeg = 78 := by decide +kernel
theorem rl_79 : rg 79 79 79 := rgl (by decide +kernel)
theorem cl_79 : (79 : Int32).toNatClampNeg = 79 := by decide +kernel
theorem rl_80 : rg 80 80 80 := rgl (by decide +kernel)
theorem cl_80 : (80 : Int32).toNatClampNeg = 80 := by decide +kernel
theorem rl_81 : rg 81 81 81 := rgl (by decide +kernel)
theorem cl_81 : (81 : Int32).toNatClampNeg = 81 := by decide +kernel
theorem rl_82 : rg 82 82 82 := rgl (by decide +kernel)
theorem cl_82 : (82 : Int32).toNatClampNeg = 82 := by decide +kernel
theorem rl_83 : rg 83 83 83 := rgl (by decide +kernel)
theorem cl_83 : (83 : Int32).toNatClampNeg = 83 := by decide +kernel
theorem rl_84 : rg 84 84 84 := rgl (by decide +kernel)
theorem cl_84 : (84 : Int32).toNatClampNeg = 84 := by decide +kernel
theorem rl_85 : rg 85 85 85 := rgl (by decide +kernel)
theorem cl_85 : (85 : Int32).toNatClampNeg = 85 := by decide +kernel
theorem rl_86 : rg 86 86 86 := rgl (by decide +kernel)
theorem cl_86 : (86 : Int32).toNatClampNeg = 86 := by decide +kernel
theorem rl_87 : rg 87 87 87 := rgl (by decide +kernel)
theorem cl_87 : (87 : Int32).toNatClampNeg = 87 := by decide +kernel
theorem rl_88 : rg 88 88 88 := rgl (by decide +kernel)
theorem cl_88 : (88 : Int32).toNatClampNeg = 88 := by decide +kernel
theorem rl_89 : rg 89 89 89 := rgl (by decide +kernel)
theorem cl_89 : (89 : Int32).toNatClampNeg = 89 := by decide +kernel
theorem rl_90 : rg 90 90 90 := rgl (by decide +kernel)
theorem cl_90 : (90 : Int32).toNatClampNeg = 90 := by decide +kernel
theorem rl_91 : rg 91 91 91 := rgl (by decide +kernel)
theorem cl_91 : (91 : Int32).toNatClampNeg = 91 := by decide +kernel
theorem rl_92 : rg 92 92 92 := rgl (by decide +kernel)
theorem cl_92 : (92 : Int32).toNatClampNeg = 92 := by decide +kernel
theorem rl_93 : rg 93 93 93 := rgl (by decide +kernel)
theorem cl_93 : (93 : Int32).toNatClampNeg = 93 := by decide +kernel
theorem rl_94 : rg 94 94 94 := rgl (by decide +kernel)
theorem cl_94 : (94 : Int32).toNatClampNeg = 94 := by decide +kernel
theorem rl_95 : rg 95 95 95 := rgl (by decide +kernel)
theorem cl_95 : (95 : Int32).toNatClampNeg = 95 := by decide +kernel
theorem rl_96 : rg 96 96 96 := rgl (by decide +kernel)
theorem cl_96 : (96 : Int32).toNatClampNeg = 96 := by decide +kernel
theorem rl_97 : rg 97 97 97 := rgl (by decide +kernel)
theorem cl_97 : (97 : Int32).toNatClampNeg = 97 := by decide +kernel
theorem rl_98 : rg 98 98 98 := rgl (by decide +kernel)
theorem cl_98 : (98 : Int32).toNatClampNeg = 98 := by decide +kernel
theorem rl_99 : rg 99 99 99 := rgl (by decide +kernel)
theorem cl_99 : (99 : Int32).toNatClampNeg = 99 := by decide +kernel
theorem rl_100 : rg 100 100 100 := rgl (by decide +kernel)
theorem cl_100 : (100 : Int32).toNatClampNeg = 100 := by decide +kernel
theorem rl_101 : rg 101 101 101 := rgl (by decide +kernel)
theorem cl_101 : (101 : Int32).toNatClampNeg = 101 := by decide +kernel
theorem rl_102 : rg 102 102 102 := rgl (by decide +kernel)
theorem cl_102 : (102 : Int32).toNatClampNeg = 102 := by decide +kernel
theorem rl_103 : rg 103 103 103 := rgl (by decide +kernel)
theorem cl_103 : (103 : Int32).toNatClampNeg = 103 := by decide +kernel
theorem rl_104 : rg 104 104 104 := rgl (by decide +kernel)
theorem cl_104 : (104 : Int32).toNatClampNeg = 104 := by decide +kernel
theorem rl_105 : rg 105 105 105 := rgl (by decide +kernel)
theorem cl_105 : (105 : Int32).toNatClampNeg = 105 := by decide +kernel
theorem rl_106 : rg 106 106 106 := rgl (by decide +kernel)
theorem cl_106 : (106 : Int32).toNatClampNeg = 106 := by decide +kernel
theorem rl_107 : rg 107 107 107 := rgl (by decide +kernel)
theorem cl_107 : (107 : Int32).toNatClampNeg = 107 := by decide +kernel
theorem rl_108 : rg 108 108 108 := rgl (by decide +kernel)
theorem cl_108 : (108 : Int32).toNatClampNeg = 108 := by decide +kernel
theorem rl_109 : rg 109 109 109 := rgl (by decide +kernel)
theorem cl_109 : (109 : Int32).toNatClampNeg = 109 := by decide +kernel
theorem rl_110 : rg 110 110 110 := rgl (by decide +kernel)
theorem cl_110 : (110 : Int32).toNatClampNeg = 110 := by decide +kernel
theorem rl_111 : rg 111 111 111 := rgl (by decide +kernel)
theorem cl_111 : (111 : Int32).toNatClampNeg = 111 := by decide +kernel
theorem rl_112 : rg 112 112 112 := rgl (by decide +kernel)
theorem cl_112 : (112 : Int32).toNatClampNeg = 112 := by decide +kernel
theorem rl_113 : rg 113 113 113 := rgl (by decide +kernel)
theorem cl_113 : (113 : Int32).toNatClampNeg = 113 := by decide +kernel
theorem rl_114 : rg 114 114 114 := rgl (by decide +kernel)
theorem cl_114 : (114 : Int32).toNatClampNeg = 114 := by decide +kernel
theorem rl_115 : rg 115 115 115 := rgl (by decide +kernel)
theorem cl_115 : (115 : Int32).toNatClampNeg = 115 := by decide +kernel
theorem rl_116 : rg 116 116 116 := rgl (by decide +kernel)
theorem cl_116 : (116 : Int32).toNatClampNeg = 116 := by decide +kernel
theorem rl_117 : rg 117 117 117 := rgl (by decide +kernel)
theorem cl_117 : (117 : Int32).toNatClampNeg = 117 := by decide +kernel
theorem rl_118 : rg 118 118 118 := rgl (by decide +kernel)
theorem cl_118 : (118 : Int32).toNatClampNeg = 118 := by decide +kernel
theorem rl_119 : rg 119 119 119 := rgl (by decide +kernel)
theorem cl_119 : (119 : Int32).toNatClampNeg = 119 := by decide +kernel
theorem rl_120 : rg 120 120 120 := rgl (by decide +kernel)
theorem cl_120 : (120 : Int32).toNatClampNeg = 120 := by decide +kernel
theorem rl_121 : rg 121 121 121 := rgl (by decide +kernel)
theorem cl_121 : (121 : Int32).toNatClampNeg = 121 := by decide +kernel
theorem rl_122 : rg 122 122 122 := rgl (by decide +kernel)
theorem cl_122 : (122 : Int32).toNatClampNeg = 122 := by decide +kernel
theorem rl_123 : rg 123 123 123 := rgl (by decide +kernel)
theorem cl_123 : (123 : Int32).toNatClampNeg = 123 := by decide +kernel
theorem rl_124 : rg 124 124 124 := rgl (by decide +kernel)
theorem cl_124 : (124 : Int32).toNatClampNeg = 124 := by decide +kernel
theorem rl_125 : rg 125 125 125 := rgl (by decide +kernel)
theorem cl_125 : (125 : Int32).toNatClampNeg = 125 := by decide +kernel
theorem rl_126 : rg 126 126 126 := rgl (by decide +kernel)
theorem cl_126 : (126 : Int32).toNatClampNeg = 126 := by decide +kernel
theorem rl_127 : rg 127 127 127 := rgl (by decide +kernel)
theorem cl_127 : (127 : Int32).toNatClampNeg = 127 := by decide +kernel
theorem rl_128 : rg 128 128 128 := rgl (by decide +kernel)
theorem cl_128 : (128 : Int32).toNatClampNeg = 128 := by decide +kernel
theorem rl_129 : rg 129 129 129 := rgl (by decide +kernel)
theorem cl_129 : (129 : Int32).toNatClampNeg = 129 := by decide +kernel
theorem rl_130 : rg 130 130 130 := rgl (by decide +kernel)
theorem cl_130 : (130 : Int32).toNatClampNeg = 130 := by decide +kernel
theorem rl_131 : rg 131 131 131 := rgl (by decide +kernel)
theorem cl_131 : (131 : Int32).toNatClampNeg = 131 := by decide +kernel
theorem rl_132 : rg 132 132 132 := rgl (by decide +kernel)
theorem cl_132 : (132 : Int32).toNatClampNeg = 132 := by decide +kernel
theorem rl_133 : rg 133 133 133 := rgl (by decide +kernel)
theorem cl_133 : (133 : Int32).toNatClampNeg = 133 := by decide +kernel
theorem rl_134 : rg 134 134 134 := rgl (by decide +kernel)
theorem cl_134 : (134 : Int32).toNatClampNeg = 134 := by decide +kernel
theorem rl_135 : rg 135 135 135 := rgl (by decide +kernel)
theorem cl_135 : (135 : Int32).toNatClampNeg = 135 := by decide +kernel
theorem rl_136 : rg 136 136 136 := rgl (by decide +kernel)
theorem cl_136 : (136 : Int32).toNatClampNeg = 136 := by decide +kernel
theorem rl_137 : rg 137 137 137 := rgl (by decide +kernel)
theorem cl_137 : (137 : Int32).toNatClampNeg = 137 := by decide +kernel
theorem rl_138 : rg 138 138 138 := rgl (by decide +kernel)
theorem cl_138 : (138 : Int32).toNatClampNeg = 138 := by decide +kernel
theorem rl_139 : rg 139 139 139 := rgl (by decide +kernel)
theorem cl_139 : (139 : Int32).toNatClampNeg = 139 := by decide +kernel
theorem rl_140 : rg 140 140 140 := rgl (by decide +kernel)
theorem cl_140 : (140 : Int32).toNatClampNeg = 140 := by decide +kernel
theorem rl_141 : rg 141 141 141 := rgl (by decide +kernel)
theorem cl_141 : (141 : Int32).toNatClampNeg = 141 := by decide +kernel
theorem rl_142 : rg 142 142 142 := rgl (by decide +kernel)
theorem cl_142 : (142 : Int32).toNatClampNeg = 142 := by decide +kernel
theorem rl_143 : rg 143 143 143 := rgl (by decide +kernel)
theorem cl_143 : (143 : Int32).toNatClampNeg = 143 := by decide +kernel
theorem rl_144 : rg 144 144 144 := rgl (by decide +kernel)
theorem cl_144 : (144 : Int32).toNatClampNeg = 144 := by decide +kernel
theorem rl_145 : rg 145 145 145 := rgl (by decide +kernel)
theorem cl_145 : (145 : Int32).toNatClampNeg = 145 := by decide +kernel
theorem rl_146 : rg 146 146 146 := rgl (by decide +kernel)
theorem cl_146 : (146 : Int32).toNatClampNeg = 146 := by decide +kernel
theorem rl_147 : rg 147 147 147 := rgl (by decide +kernel)
theorem cl_147 : (147 : Int32).toNatClampNeg = 147 := by decide +kernel
theorem rl_148 : rg 148 148 148 := rgl (by decide +kernel)
theorem cl_148 : (148 : Int32).toNatClampNeg = 148 := by decide +kernel
theorem rl_149 : rg 149 149 149 := rgl (by decide +kernel)
theorem cl_149 : (149 : Int32).toNatClampNeg = 149 := by decide +kernel
theorem rl_150 : rg 150 150 150 := rgl (by decide +kernel)
theorem cl_150 : (150 : Int32).toNatClampNeg = 150 := by decide +kernel
theorem rl_151 : rg 151 151 151 := rgl (by decide +kernel)
theorem cl_151 : (151 : Int32).toNatClampNeg = 151 := by decide +kernel
theorem rl_152 : rg 152 152 152 := rgl (by decide +kernel)
theorem cl_152 : (152 : Int32).toNatClampNeg = 152 := by decide +kernel
theorem rl_153 : rg 153 153 153 := rgl (by decide +kernel)
theorem cl_153 : (153 : Int32).toNatClampNeg = 153 := by decide +kernel
theorem rl_154 : rg 154 154 154 := rgl (by decide +kernel)
theorem cl_154 : (154 : Int32).toNatClampNeg = 154 := by decide +kernel
theorem rl_155 : rg 155 155 155 := rgl (by decide +kernel)
theorem cl_155 : (155 : Int32).toNatClampNeg = 155 := by decide +kernel
theorem rl_156 : rg 156 156 156 := rgl (by decide +kernel)
theorem cl_156 : (156 : Int32).toNatClampNeg = 156 := by decide +kernel
theorem rl_157 : rg 157 157 157 := rgl (by decide +kernel)
theorem cl_157 : (157 : Int32).toNatClampNeg = 157 := by decide +kernel
theorem rl_158 : rg 158 158 158 := rgl (by decide +kernel)
theorem cl_158 : (158 : Int32).toNatClampNeg = 158 := by decide +kernel
theorem rl_159 : rg 159 159 159 := rgl (by decide +kernel)
theorem cl_159 : (159 : Int32).toNatClampNeg = 159 := by decide +kernel
theorem rl_160 : rg 160 160 160 := rgl (by decide +kernel)
theorem cl_160 : (160 : Int32).toNatClampNeg = 160 := by decide +kernel
theorem rl_161 : rg 161 161 161 := rgl (by decide +kernel)
theorem cl_161 : (161 : Int32).toNatClampNeg = 161 := by decide +kernel
theorem rl_162 : rg 162 162 162 := rgl (by decide +kernel)
theorem cl_162 : (162 : Int32).toNatClampNeg = 162 := by decide +kernel
theorem rl_163 : rg 163 163 163 := rgl (by decide +kernel)
theorem cl_163 : (163 : Int32).toNatClampNeg = 163 := by decide +kernel
theorem rl_164 : rg 164 164 164 := rgl (by decide +kernel)
theorem cl_164 : (164 : Int32).toNatClampNeg = 164 := by decide +kernel
theorem rl_165 : rg 165 165 165 := rgl (by decide +kernel)
theorem cl_165 : (165 : Int32).toNatClampNeg = 165 := by decide +kernel
theorem rl_166 : rg 166 166 166 := rgl (by decide +kernel)
theorem cl_166 : (166 : Int32).toNatClampNeg = 166 := by decide +kernel
theorem rl_167 : rg 167 167 167 := rgl (by decide +kernel)
theorem cl_167 : (167 : Int32).toNatClampNeg = 167 := by decide +kernel
theorem rl_168 : rg 168 168 168 := rgl (by decide +kernel)
theorem cl_168 : (168 : Int32).toNatClampNeg = 168 := by decide +kernel
theorem rl_169 : rg 169 169 169 := rgl (by decide +kernel)
theorem cl_169 : (169 : Int32).toNatClampNeg = 169 := by decide +kernel
theorem rl_170 : rg 170 170 170 := rgl (by decide +kernel)
theorem cl_170 : (170 : Int32).toNatClampNeg = 170 := by decide +kernel
theorem rl_171 : rg 171 171 171 := rgl (by decide +kernel)
theorem cl_171 : (171 : Int32).toNatClampNeg = 171 := by decide +kernel
theorem rl_172 : rg 172 172 172 := rgl (by decide +kernel)
theorem cl_172 : (172 : Int32).toNatClampNeg = 172 := by decide +kernel
theorem rl_173 : rg 173 173 173 := rgl (by decide +kernel)
theorem cl_173 : (173 : Int32).toNatClampNeg = 173 := by decide +kernel
theorem rl_174 : rg 174 174 174 := rgl (by decide +kernel)
theorem cl_174 : (174 : Int32).toNatClampNeg = 174 := by decide +kernel
theorem rl_175 : rg 175 175 175 := rgl (by decide +kernel)
theorem cl_175 : (175 : Int32).toNatClampNeg = 175 := by decide +kernel
theorem rl_176 : rg 176 176 176 := rgl (by decide +kernel)
theorem cl_176 : (176 : Int32).toNatClampNeg = 176 := by decide +kernel
theorem rl_177 : rg 177 177 177 := rgl (by decide +kernel)
theorem cl_177 : (177 : Int32).toNatClampNeg = 177 := by decide +kernel
theorem rl_178 : rg 178 178 178 := rgl (by decide +kernel)
theorem cl_178 : (178 : Int32).toNatClampNeg = 178 := by decide +kernel
theorem rl_179 : rg 179 179 179 := rgl (by decide +kernel)
theorem cl_179 : (179 : Int32).toNatClampNeg = 179 := by decide +kernel
theorem rl_180 : rg 180 180 180 := rgl (by decide +kernel)
theorem cl_180 : (180 : Int32).toNatClampNeg = 180 := by decide +kernel
theorem rl_181 : rg 181 181 181 := rgl (by decide +kernel)
theorem cl_181 : (181 : Int32).toNatClampNeg = 181 := by decide +kernel
theorem rl_182 : rg 182 182 182 := rgl (by decide +kernel)
theorem cl_182 : (182 : Int32).toNatClampNeg = 182 := by decide +kernel
theorem rl_189 : rg 189 189 189 := rgl (by decide +kernel)
theorem cl_189 : (189 : Int32).toNatClampNeg = 189 := by decide +kernel
theorem rl_191 : rg 191 191 191 := rgl (by decide +kernel)
theorem cl_191 : (191 : Int32).toNatClampNeg = 191 := by decide +kernel
theorem rl_192 : rg 192 192 192 := rgl (by decide +kernel)
theorem cl_192 : (192 : Int32).toNatClampNeg = 192 := by decide +kernel
theorem rl_193 : rg 193 193 193 := rgl (by decide +kernel)
theorem cl_193 : (193 : Int32).toNatClampNeg = 193 := by decide +kernel
theorem rl_194 : rg 194 194 194 := rgl (by decide +kernel)
theorem cl_194 : (194 : Int32).toNatClampNeg = 194 := by decide +kernel
theorem rl_196 : rg 196 196 196 := rgl (by decide +kernel)
theorem cl_196 : (196 : Int32).toNatClampNeg = 196 := by decide +kernel
theorem rl_197 : rg 197 197 197 := rgl (by decide +kernel)
theorem cl_197 : (197 : Int32).toNatClampNeg = 197 := by decide +kernel
theorem rl_198 : rg 198 198 198 := rgl (by decide +kernel)
theorem cl_198 : (198 : Int32).toNatClampNeg = 198 := by decide +kernel
theorem rl_223 : rg 223 223 223 := rgl (by decide +kernel)
theorem cl_223 : (223 : Int32).toNatClampNeg = 223 := by decide +kernel
theorem rl_224 : rg 224 224 224 := rgl (by decide +kernel)
theorem cl_224 : (224 : Int32).toNatClampNeg = 224 := by decide +kernel
theorem rl_239 : rg 239 239 239 := rgl (by decide +kernel)
theorem cl_239 : (239 : Int32).toNatClampNeg = 239 := by decide +kernel
theorem rl_240 : rg 240 240 240 := rgl (by decide +kernel)
theorem cl_240 : (240 : Int32).toNatClampNeg = 240 := by decide +kernel
theorem rl_244 : rg 244 244 244 := rgl (by decide +kernel)
theorem cl_244 : (244 : Int32).toNatClampNeg = 244 := by decide +kernel
theorem rl_247 : rg 247 247 247 := rgl (by decide +kernel)
theorem cl_247 : (247 : Int32).toNatClampNeg = 247 := by decide +kernel
theorem rl_251 : rg 251 251 251 := rgl (by decide +kernel)
theorem cl_251 : (251 : Int32).toNatClampNeg = 251 := by decide +kernel
theorem rl_253 : rg 253 253 253 := rgl (by decide +kernel)
theorem cl_253 : (253 : Int32).toNatClampNeg = 253 := by decide +kernel
theorem rl_254 : rg 254 254 254 := rgl (by decide +kernel)
theorem cl_254 : (254 : Int32).toNatClampNeg = 254 := by decide +kernel
theorem rl_255 : rg 255 255 255 := rgl (by decide +kernel)
theorem cl_255 : (255 : Int32).toNatClampNeg = 255 := by decide +kernel
theorem rl_256 : rg 256 256 256 := rgl (by decide +kernel)
theorem cl_256 : (256 : Int32).toNatClampNeg = 256 := by decide +kernel
theorem rl_300 : rg 300 300 300 := rgl (by decide +kernel)
theorem cl_300 : (300 : Int32).toNatClampNeg = 300 := by decide +kernel
theorem rl_508 : rg 508 508 508 := rgl (by decide +kernel)
theorem cl_508 : (508 : Int32).toNatClampNeg = 508 := by decide +kernel
theorem rl_512 : rg 512 512 512 := rgl (by decide +kernel)
theorem cl_512 : (512 : Int32).toNatClampNeg = 512 := by decide +kernel
theorem rl_1000 : rg 1000 1000 1000 := rgl (by decide +kernel)
theorem cl_1000 : (1000 : Int32).toNatClampNeg = 1000 := by decide +kernel
theorem rl_1023 : rg 1023 1023 1023 := rgl (by decide +kernel)
theorem cl_1023 : (1023 : Int32).toNatClampNeg = 1023 := by decide +kernel
theorem rl_1024 : rg 1024 1024 1024 := rgl (by decide +kernel)
theorem cl_1024 : (1024 : Int32).toNatClampNeg = 1024 := by decide +kernel
theorem rl_1280 : rg 1280 1280 1280 := rgl (by decide +kernel)
theorem cl_1280 : (1280 : Int32).toNatClampNeg = 1280 := by decide +kernel
theorem rl_1536 : rg 1536 1536 1536 := rgl (by decide +kernel)
theorem cl_1536 : (1536 : Int32).toNatClampNeg = 1536 := by decide +kernel
theorem rl_1596 : rg 1596 1596 1596 := rgl (by decide +kernel)
theorem cl_1596 : (1596 : Int32).toNatClampNeg = 1596 := by decide +kernel
theorem rl_1656 : rg 1656 1656 1656 := rgl (by decide +kernel)
theorem cl_1656 : (1656 : Int32).toNatClampNeg = 1656 := by decide +kernel
theorem rl_1716 : rg 1716 1716 1716 := rgl (by decide +kernel)
theorem cl_1716 : (1716 : Int32).toNatClampNeg = 1716 := by decide +kernel
theorem rl_2047 : rg 2047 2047 2047 := rgl (by decide +kernel)
theorem cl_2047 : (2047 : Int32).toNatClampNeg = 2047 := by decide +kernel
theorem rl_2048 : rg 2048 2048 2048 := rgl (by decide +kernel)
theorem rl_3400 : rg 3400 3400 3400 := rgl (by decide +kernel)
theorem rl_4078 : rg 4078 4078 4078 := rgl (by decide +kernel)
theorem rl_4095 : rg 4095 4095 4095 := rgl (by decide +kernel)
theorem rl_4096 : rg 4096 4096 4096 := rgl (by decide +kernel)
theorem rl_5000 : rg 5000 5000 5000 := rgl (by decide +kernel)
theorem rl_8000 : rg 8000 8000 8000 := rgl (by decide +kernel)
theorem rl_8191 : rg 8191 8191 8191 := rgl (by decide +kernel)
theorem rl_8961 : rg 8961 8961 8961 := rgl (by decide +kernel)
theorem rl_9233 : rg 9233 9233 9233 := rgl (by decide +kernel)
theorem rl_10096 : rg 10096 10096 10096 := rgl (by decide +kernel)
theorem rl_10103 : rg 10103 10103 10103 := rgl (by decide +kernel)
theorem rl_10222 : rg 10222 10222 10222 := rgl (by decide +kernel)
theorem rl_10239 : rg 10239 10239 10239 := rgl (by decide +kernel)
theorem rl_11079 : rg 11079 11079 11079 := rgl (by decide +kernel)
theorem rl_12072 : rg 12072 12072 12072 := rgl (by decide +kernel)
theorem rl_12096 : rg 12096 12096 12096 := rgl (by decide +kernel)
theorem rl_12112 : rg 12112 12112 12112 := rgl (by decide +kernel)
theorem rl_12128 : rg 12128 12128 12128 := rgl (by decide +kernel)
theorem rl_12160 : rg 12160 12160 12160 := rgl (by decide +kernel)
theorem rl_12176 : rg 12176 12176 12176 := rgl (by decide +kernel)
theorem rl_12438 : rg 12438 12438 12438 := rgl (by decide +kernel)
theorem rl_12800 : rg 12800 12800 12800 := rgl (by decide +kernel)
theorem rl_13056 : rg 13056 13056 13056 := rgl (by decide +kernel)
theorem rl_13392 : rg 13392 13392 13392 := rgl (by decide +kernel)
theorem rl_13414 : rg 13414 13414 13414 := rgl (by decide +kernel)
theorem rl_13569 : rg 13569 13569 13569 := rgl (by decide +kernel)
theorem rl_13573 : rg 13573 13573 13573 := rgl (by decide +kernel)
theorem rl_13828 : rg 13828 13828 13828 := rgl (by decide +kernel)
theorem rl_14084 : rg 14084 14084 14084 := rgl (by decide +kernel)
theorem rl_14085 : rg 14085 14085 14085 := rgl (by decide +kernel)
theorem rl_16143 : rg 16143 16143 16143 := rgl (by decide +kernel)
theorem rl_16624 : rg 16624 16624 16624 := rgl (by decide +kernel)
theorem rl_21728 : rg 21728 21728 21728 := rgl (by decide +kernel)
theorem rl_28975 : rg 28975 28975 28975 := rgl (by decide +kernel)
theorem rl_32768 : rg 32768 32768 32768 := rgl (by decide +kernel)
theorem rl_36864 : rg 36864 36864 36864 := rgl (by decide +kernel)
theorem rl_36877 : rg 36877 36877 36877 := rgl (by decide +kernel)
theorem rl_36893 : rg 36893 36893 36893 := rgl (by decide +kernel)
theorem rl_37120 : rg 37120 37120 37120 := rgl (by decide +kernel)
theorem rl_37125 : rg 37125 37125 37125 := rgl (by decide +kernel)
theorem rl_37140 : rg 37140 37140 37140 := rgl (by decide +kernel)
theorem rl_37152 : rg 37152 37152 37152 := rgl (by decide +kernel)
theorem rl_37167 : rg 37167 37167 37167 := rgl (by decide +kernel)
theorem rl_37392 : rg 37392 37392 37392 := rgl (by decide +kernel)
theorem rl_37632 : rg 37632 37632 37632 := rgl (by decide +kernel)
theorem rl_37645 : rg 37645 37645 37645 := rgl (by decide +kernel)
theorem rl_37897 : rg 37897 37897 37897 := rgl (by decide +kernel)
theorem rl_37900 : rg 37900 37900 37900 := rgl (by decide +kernel)
theorem rl_38008 : rg 38008 38008 38008 := rgl (by decide +kernel)
theorem rl_38144 : rg 38144 38144 38144 := rgl (by decide +kernel)
theorem rl_38152 : rg 38152 38152 38152 := rgl (by decide +kernel)
theorem rl_38153 : rg 38153 38153 38153 := rgl (by decide +kernel)
theorem rl_38202 : rg 38202 38202 38202 := rgl (by decide +kernel)
theorem rl_38312 : rg 38312 38312 38312 := rgl (by decide +kernel)
theorem rl_38376 : rg 38376 38376 38376 := rgl (by decide +kernel)
theorem rl_38450 : rg 38450 38450 38450 := rgl (by decide +kernel)
theorem rl_46868 : rg 46868 46868 46868 := rgl (by decide +kernel)
theorem rl_46871 : rg 46871 46871 46871 := rgl (by decide +kernel)
theorem rl_48660 : rg 48660 48660 48660 := rgl (by decide +kernel)
theorem rl_48909 : rg 48909 48909 48909 := rgl (by decide +kernel)
theorem rl_48910 : rg 48910 48910 48910 := rgl (by decide +kernel)
theorem rl_48935 : rg 48935 48935 48935 := rgl (by decide +kernel)
theorem rl_49157 : rg 49157 49157 49157 := rgl (by decide +kernel)
theorem rl_49159 : rg 49159 49159 49159 := rgl (by decide +kernel)
theorem rl_49168 : rg 49168 49168 49168 := rgl (by decide +kernel)
theorem rl_49233 : rg 49233 49233 49233 := rgl (by decide +kernel)
theorem rl_49267 : rg 49267 49267 49267 := rgl (by decide +kernel)
theorem rl_49306 : rg 49306 49306 49306 := rgl (by decide +kernel)
theorem rl_53076 : rg 53076 53076 53076 := rgl (by decide +kernel)
theorem rl_53149 : rg 53149 53149 53149 := rgl (by decide +kernel)
theorem rl_53170 : rg 53170 53170 53170 := rgl (by decide +kernel)
theorem rl_53192 : rg 53192 53192 53192 := rgl (by decide +kernel)
theorem rl_53193 : rg 53193 53193 53193 := rgl (by decide +kernel)
theorem rl_53214 : rg 53214 53214 53214 := rgl (by decide +kernel)
theorem rl_53232 : rg 53232 53232 53232 := rgl (by decide +kernel)
theorem rl_53244 : rg 53244 53244 53244 := rgl (by decide +kernel)
theorem rl_53245 : rg 53245 53245 53245 := rgl (by decide +kernel)
theorem rl_53248 : rg 53248 53248 53248 := rgl (by decide +kernel)
theorem rl_53255 : rg 53255 53255 53255 := rgl (by decide +kernel)
theorem rl_53256 : rg 53256 53256 53256 := rgl (by decide +kernel)
theorem rl_53257 : rg 53257 53257 53257 := rgl (by decide +kernel)
theorem rl_53258 : rg 53258 53258 53258 := rgl (by decide +kernel)
theorem rl_53259 : rg 53259 53259 53259 := rgl (by decide +kernel)
theorem rl_53265 : rg 53265 53265 53265 := rgl (by decide +kernel)
theorem rl_53270 : rg 53270 53270 53270 := rgl (by decide +kernel)
theorem rl_53272 : rg 53272 53272 53272 := rgl (by decide +kernel)
theorem rl_53274 : rg 53274 53274 53274 := rgl (by decide +kernel)
theorem rl_53307 : rg 53307 53307 53307 := rgl (by decide +kernel)
theorem rl_53312 : rg 53312 53312 53312 := rgl (by decide +kernel)
theorem rl_53318 : rg 53318 53318 53318 := rgl (by decide +kernel)
theorem rl_53320 : rg 53320 53320 53320 := rgl (by decide +kernel)
theorem rl_53322 : rg 53322 53322 53322 := rgl (by decide +kernel)
theorem rl_53328 : rg 53328 53328 53328 := rgl (by decide +kernel)
theorem rl_53330 : rg 53330 53330 53330 := rgl (by decide +kernel)
theorem rl_53332 : rg 53332 53332 53332 := rgl (by decide +kernel)
theorem rl_53340 : rg 53340 53340 53340 := rgl (by decide +kernel)
theorem rl_53341 : rg 53341 53341 53341 := rgl (by decide +kernel)
theorem rl_53342 : rg 53342 53342 53342 := rgl (by decide +kernel)
theorem rl_53344 : rg 53344 53344 53344 := rgl (by decide +kernel)
theorem rl_53353 : rg 53353 53353 53353 := rgl (by decide +kernel)
theorem rl_53356 : rg 53356 53356 53356 := rgl (by decide +kernel)
theorem rl_53358 : rg 53358 53358 53358 := rgl (by decide +kernel)
theorem rl_57325 : rg 57325 57325 57325 := rgl (by decide +kernel)
theorem rl_57328 : rg 57328 57328 57328 := rgl (by decide +kernel)
theorem rl_57329 : rg 57329 57329 57329 := rgl (by decide +kernel)
theorem rl_57334 : rg 57334 57334 57334 := rgl (by decide +kernel)
theorem rl_57348 : rg 57348 57348 57348 := rgl (by decide +kernel)
theorem rl_57351 : rg 57351 57351 57351 := rgl (by decide +kernel)
theorem rl_57357 : rg 57357 57357 57357 := rgl (by decide +kernel)
theorem rl_57377 : rg 57377 57377 57377 := rgl (by decide +kernel)
theorem rl_57379 : rg 57379 57379 57379 := rgl (by decide +kernel)
theorem rl_57381 : rg 57381 57381 57381 := rgl (by decide +kernel)
theorem rl_57504 : rg 57504 57504 57504 := rgl (by decide +kernel)
theorem rl_57521 : rg 57521 57521 57521 := rgl (by decide +kernel)
theorem rl_57600 : rg 57600 57600 57600 := rgl (by decide +kernel)
theorem rl_57601 : rg 57601 57601 57601 := rgl (by decide +kernel)
theorem rl_57602 : rg 57602 57602 57602 := rgl (by decide +kernel)
theorem rl_57604 : rg 57604 57604 57604 := rgl (by decide +kernel)
theorem rl_57605 : rg 57605 57605 57605 := rgl (by decide +kernel)
theorem rl_57608 : rg 57608 57608 57608 := rgl (by decide +kernel)
theorem rl_57614 : rg 57614 57614 57614 := rgl (by decide +kernel)
theorem rl_57633 : rg 57633 57633 57633 := rgl (by decide +kernel)
theorem rl_57904 : rg 57904 57904 57904 := rgl (by decide +kernel)
theorem rl_58416 : rg 58416 58416 58416 := rgl (by decide +kernel)
theorem rl_59651 : rg 59651 59651 59651 := rgl (by decide +kernel)
theorem rl_61199 : rg 61199 61199 61199 := rgl (by decide +kernel)
theorem rl_61473 : rg 61473 61473 61473 := rgl (by decide +kernel)
theorem rl_61497 : rg 61497 61497 61497 := rgl (by decide +kernel)
theorem rl_61521 : rg 61521 61521 61521 := rgl (by decide +kernel)
theorem rl_61609 : rg 61609 61609 61609 := rgl (by decide +kernel)
theorem rl_61657 : rg 61657 61657 61657 := rgl (by decide +kernel)
theorem rl_62648 : rg 62648 62648 62648 := rgl (by decide +kernel)
theorem rl_62665 : rg 62665 62665 62665 := rgl (by decide +kernel)
theorem rl_62689 : rg 62689 62689 62689 := rgl (by decide +kernel)
theorem rl_62705 : rg 62705 62705 62705 := rgl (by decide +kernel)
theorem rl_62721 : rg 62721 62721 62721 := rgl (by decide +kernel)
theorem rl_63433 : rg 63433 63433 63433 := rgl (by decide +kernel)
theorem rl_63449 : rg 63449 63449 63449 := rgl (by decide +kernel)
theorem rl_63457 : rg 63457 63457 63457 := rgl (by decide +kernel)
theorem rl_64527 : rg 64527 64527 64527 := rgl (by decide +kernel)
theorem rl_64784 : rg 64784 64784 64784 := rgl (by decide +kernel)
theorem rl_64787 : rg 64787 64787 64787 := rgl (by decide +kernel)
theorem rl_65036 : rg 65036 65036 65036 := rgl (by decide +kernel)
theorem rl_65287 : rg 65287 65287 65287 := rgl (by decide +kernel)
theorem rl_65317 : rg 65317 65317 65317 := rgl (by decide +kernel)
theorem rl_65318 : rg 65318 65318 65318 := rgl (by decide +kernel)
theorem rl_65535 : rg 65535 65535 65535 := rgl (by decide +kernel)
theorem rl_200000 : rg 200000 200000 200000 := rgl (by decide +kernel)
theorem rl_2147483647 : rg 2147483647 2147483647 2147483647 := rgl (by decide +kernel)
theorem m31_0 : (0 : Int32) &&& 31 = 0 := by decide +kernel
theorem m31_1 : (1 : Int32) &&& 31 = 1 := by decide +kernel
theorem m31_2 : (2 : Int32) &&& 31 = 2 := by decide +kernel
theorem m31_3 : (3 : Int32) &&& 31 = 3 := by decide +kernel
theorem m31_4 : (4 : Int32) &&& 31 = 4 := by decide +kernel
theorem m31_5 : (5 : Int32) &&& 31 = 5 := by decide +kernel
theorem m31_6 : (6 : Int32) &&& 31 = 6 := by decide +kernel
theorem m31_7 : (7 : Int32) &&& 31 = 7 := by decide +kernel
theorem m31_8 : (8 : Int32) &&& 31 = 8 := by decide +kernel
theorem m31_9 : (9 : Int32) &&& 31 = 9 := by decide +kernel
theorem m31_10 : (10 : Int32) &&& 31 = 10 := by decide +kernel
theorem m31_11 : (11 : Int32) &&& 31 = 11 := by decide +kernel
theorem m31_12 : (12 : Int32) &&& 31 = 12 := by decide +kernel
theorem m31_13 : (13 : Int32) &&& 31 = 13 := by decide +kernel
theorem m31_14 : (14 : Int32) &&& 31 = 14 := by decide +kernel
theorem m31_15 : (15 : Int32) &&& 31 = 15 := by decide +kernel
theorem m31_16 : (16 : Int32) &&& 31 = 16 := by decide +kernel
theorem m31_17 : (17 : Int32) &&& 31 = 17 := by decide +kernel
theorem m31_18 : (18 : Int32) &&& 31 = 18 := by decide +kernel
theorem m31_19 : (19 : Int32) &&& 31 = 19 := by decide +kernel
theorem m31_20 : (20 : Int32) &&& 31 = 20 := by decide +kernel
theorem m31_21 : (21 : Int32) &&& 31 = 21 := by decide +kernel
theorem m31_22 : (22 : Int32) &&& 31 = 22 := by decide +kernel
theorem m31_23 : (23 : Int32) &&& 31 = 23 := by decide +kernel
theorem m31_24 : (24 : Int32) &&& 31 = 24 := by decide +kernel
theorem m31_25 : (25 : Int32) &&& 31 = 25 := by decide +kernel
theorem m31_26 : (26 : Int32) &&& 31 = 26 := by decide +kernel
theorem m31_27 : (27 : Int32) &&& 31 = 27 := by decide +kernel
theorem m31_28 : (28 : Int32) &&& 31 = 28 := by decide +kernel
theorem m31_29 : (29 : Int32) &&& 31 = 29 := by decide +kernel
theorem m31_30 : (30 : Int32) &&& 31 = 30 := by decide +kernel
theorem m31_31 : (31 : Int32) &&& 31 = 31 := by decide +kernel
