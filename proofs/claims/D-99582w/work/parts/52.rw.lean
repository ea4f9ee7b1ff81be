/-! SPECS: what is read and written of bk_M, by place; numbers written out: printed by gen2.py -/
set_option maxRecDepth 100000
theorem li_0 : (0 : Int32) = bk_i 0 := by decide
theorem li_1 : (1 : Int32) = bk_i 1 := by decide
theorem li_2 : (2 : Int32) = bk_i 2 := by decide
theorem li_3 : (3 : Int32) = bk_i 3 := by decide
theorem li_4 : (4 : Int32) = bk_i 4 := by decide
theorem li_5 : (5 : Int32) = bk_i 5 := by decide
theorem li_6 : (6 : Int32) = bk_i 6 := by decide
theorem li_7 : (7 : Int32) = bk_i 7 := by decide
theorem li_8 : (8 : Int32) = bk_i 8 := by decide
theorem li_9 : (9 : Int32) = bk_i 9 := by decide
theorem li_10 : (10 : Int32) = bk_i 10 := by decide
theorem li_11 : (11 : Int32) = bk_i 11 := by decide
theorem li_12 : (12 : Int32) = bk_i 12 := by decide
theorem li_13 : (13 : Int32) = bk_i 13 := by decide
theorem li_14 : (14 : Int32) = bk_i 14 := by decide
theorem li_15 : (15 : Int32) = bk_i 15 := by decide
theorem li_16 : (16 : Int32) = bk_i 16 := by decide
theorem li_17 : (17 : Int32) = bk_i 17 := by decide
theorem li_18 : (18 : Int32) = bk_i 18 := by decide
theorem li_19 : (19 : Int32) = bk_i 19 := by decide
theorem li_20 : (20 : Int32) = bk_i 20 := by decide
theorem li_21 : (21 : Int32) = bk_i 21 := by decide
theorem li_22 : (22 : Int32) = bk_i 22 := by decide
theorem li_23 : (23 : Int32) = bk_i 23 := by decide
theorem li_24 : (24 : Int32) = bk_i 24 := by decide
theorem li_25 : (25 : Int32) = bk_i 25 := by decide
theorem li_26 : (26 : Int32) = bk_i 26 := by decide
theorem li_27 : (27 : Int32) = bk_i 27 := by decide
theorem li_28 : (28 : Int32) = bk_i 28 := by decide
theorem li_29 : (29 : Int32) = bk_i 29 := by decide
theorem li_30 : (30 : Int32) = bk_i 30 := by decide
theorem li_31 : (31 : Int32) = bk_i 31 := by decide
theorem li_32 : (32 : Int32) = bk_i 32 := by decide
theorem li_33 : (33 : Int32) = bk_i 33 := by decide
theorem li_34 : (34 : Int32) = bk_i 34 := by decide
theorem li_35 : (35 : Int32) = bk_i 35 := by decide
theorem li_36 : (36 : Int32) = bk_i 36 := by decide
theorem li_37 : (37 : Int32) = bk_i 37 := by decide
theorem li_38 : (38 : Int32) = bk_i 38 := by decide
theorem li_39 : (39 : Int32) = bk_i 39 := by decide
theorem li_40 : (40 : Int32) = bk_i 40 := by decide
theorem li_41 : (41 : Int32) = bk_i 41 := by decide
theorem li_42 : (42 : Int32) = bk_i 42 := by decide
theorem li_43 : (43 : Int32) = bk_i 43 := by decide
theorem li_44 : (44 : Int32) = bk_i 44 := by decide
theorem li_45 : (45 : Int32) = bk_i 45 := by decide
theorem li_46 : (46 : Int32) = bk_i 46 := by decide
theorem li_47 : (47 : Int32) = bk_i 47 := by decide
theorem li_48 : (48 : Int32) = bk_i 48 := by decide
theorem li_49 : (49 : Int32) = bk_i 49 := by decide
theorem li_50 : (50 : Int32) = bk_i 50 := by decide
theorem li_51 : (51 : Int32) = bk_i 51 := by decide
theorem li_52 : (52 : Int32) = bk_i 52 := by decide
theorem li_53 : (53 : Int32) = bk_i 53 := by decide
theorem li_54 : (54 : Int32) = bk_i 54 := by decide
theorem li_55 : (55 : Int32) = bk_i 55 := by decide
theorem li_56 : (56 : Int32) = bk_i 56 := by decide
theorem li_57 : (57 : Int32) = bk_i 57 := by decide
theorem li_58 : (58 : Int32) = bk_i 58 := by decide
theorem li_59 : (59 : Int32) = bk_i 59 := by decide
theorem li_60 : (60 : Int32) = bk_i 60 := by decide
theorem li_61 : (61 : Int32) = bk_i 61 := by decide
theorem li_62 : (62 : Int32) = bk_i 62 := by decide
theorem li_63 : (63 : Int32) = bk_i 63 := by decide
theorem li_64 : (64 : Int32) = bk_i 64 := by decide
theorem li_65 : (65 : Int32) = bk_i 65 := by decide
theorem li_66 : (66 : Int32) = bk_i 66 := by decide
theorem li_67 : (67 : Int32) = bk_i 67 := by decide
theorem li_68 : (68 : Int32) = bk_i 68 := by decide
theorem li_69 : (69 : Int32) = bk_i 69 := by decide
theorem li_70 : (70 : Int32) = bk_i 70 := by decide
theorem li_71 : (71 : Int32) = bk_i 71 := by decide
theorem li_72 : (72 : Int32) = bk_i 72 := by decide
theorem li_73 : (73 : Int32) = bk_i 73 := by decide
theorem li_74 : (74 : Int32) = bk_i 74 := by decide
theorem li_75 : (75 : Int32) = bk_i 75 := by decide
theorem li_76 : (76 : Int32) = bk_i 76 := by decide
theorem li_77 : (77 : Int32) = bk_i 77 := by decide
theorem li_78 : (78 : Int32) = bk_i 78 := by decide
theorem li_79 : (79 : Int32) = bk_i 79 := by decide
theorem li_80 : (80 : Int32) = bk_i 80 := by decide
theorem li_81 : (81 : Int32) = bk_i 81 := by decide
theorem li_82 : (82 : Int32) = bk_i 82 := by decide
theorem li_83 : (83 : Int32) = bk_i 83 := by decide
theorem li_84 : (84 : Int32) = bk_i 84 := by decide
theorem li_85 : (85 : Int32) = bk_i 85 := by decide
theorem li_86 : (86 : Int32) = bk_i 86 := by decide
theorem li_88 : (88 : Int32) = bk_i 88 := by decide
theorem li_89 : (89 : Int32) = bk_i 89 := by decide
theorem li_90 : (90 : Int32) = bk_i 90 := by decide
theorem li_91 : (91 : Int32) = bk_i 91 := by decide
theorem li_93 : (93 : Int32) = bk_i 93 := by decide
theorem li_94 : (94 : Int32) = bk_i 94 := by decide
theorem li_95 : (95 : Int32) = bk_i 95 := by decide
theorem li_96 : (96 : Int32) = bk_i 96 := by decide
theorem li_97 : (97 : Int32) = bk_i 97 := by decide
theorem li_98 : (98 : Int32) = bk_i 98 := by decide
theorem li_99 : (99 : Int32) = bk_i 99 := by decide
theorem li_100 : (100 : Int32) = bk_i 100 := by decide
theorem li_101 : (101 : Int32) = bk_i 101 := by decide
theorem li_102 : (102 : Int32) = bk_i 102 := by decide
theorem li_103 : (103 : Int32) = bk_i 103 := by decide
theorem li_104 : (104 : Int32) = bk_i 104 := by decide
theorem li_105 : (105 : Int32) = bk_i 105 := by decide
theorem li_106 : (106 : Int32) = bk_i 106 := by decide
theorem li_107 : (107 : Int32) = bk_i 107 := by decide
theorem li_108 : (108 : Int32) = bk_i 108 := by decide
theorem li_110 : (110 : Int32) = bk_i 110 := by decide
theorem li_111 : (111 : Int32) = bk_i 111 := by decide
theorem li_113 : (113 : Int32) = bk_i 113 := by decide
theorem li_114 : (114 : Int32) = bk_i 114 := by decide
theorem li_115 : (115 : Int32) = bk_i 115 := by decide
theorem li_116 : (116 : Int32) = bk_i 116 := by decide
theorem li_118 : (118 : Int32) = bk_i 118 := by decide
theorem li_119 : (119 : Int32) = bk_i 119 := by decide
theorem li_120 : (120 : Int32) = bk_i 120 := by decide
theorem li_121 : (121 : Int32) = bk_i 121 := by decide
theorem li_122 : (122 : Int32) = bk_i 122 := by decide
theorem li_123 : (123 : Int32) = bk_i 123 := by decide
theorem li_124 : (124 : Int32) = bk_i 124 := by decide
theorem li_125 : (125 : Int32) = bk_i 125 := by decide
theorem li_126 : (126 : Int32) = bk_i 126 := by decide
theorem li_127 : (127 : Int32) = bk_i 127 := by decide
theorem li_131 : (131 : Int32) = bk_i 131 := by decide
theorem li_132 : (132 : Int32) = bk_i 132 := by decide
theorem li_133 : (133 : Int32) = bk_i 133 := by decide
theorem li_134 : (134 : Int32) = bk_i 134 := by decide
theorem li_135 : (135 : Int32) = bk_i 135 := by decide
theorem li_136 : (136 : Int32) = bk_i 136 := by decide
theorem li_137 : (137 : Int32) = bk_i 137 := by decide
theorem li_138 : (138 : Int32) = bk_i 138 := by decide
theorem li_139 : (139 : Int32) = bk_i 139 := by decide
theorem li_140 : (140 : Int32) = bk_i 140 := by decide
theorem li_142 : (142 : Int32) = bk_i 142 := by decide
theorem li_143 : (143 : Int32) = bk_i 143 := by decide
theorem li_146 : (146 : Int32) = bk_i 146 := by decide
theorem li_147 : (147 : Int32) = bk_i 147 := by decide
theorem li_149 : (149 : Int32) = bk_i 149 := by decide
theorem li_150 : (150 : Int32) = bk_i 150 := by decide
theorem li_151 : (151 : Int32) = bk_i 151 := by decide
theorem li_155 : (155 : Int32) = bk_i 155 := by decide
theorem li_158 : (158 : Int32) = bk_i 158 := by decide
theorem li_159 : (159 : Int32) = bk_i 159 := by decide
theorem li_160 : (160 : Int32) = bk_i 160 := by decide
theorem li_162 : (162 : Int32) = bk_i 162 := by decide
theorem li_167 : (167 : Int32) = bk_i 167 := by decide
theorem li_170 : (170 : Int32) = bk_i 170 := by decide
theorem li_179 : (179 : Int32) = bk_i 179 := by decide
theorem li_180 : (180 : Int32) = bk_i 180 := by decide
theorem li_182 : (182 : Int32) = bk_i 182 := by decide
theorem li_183 : (183 : Int32) = bk_i 183 := by decide
theorem li_187 : (187 : Int32) = bk_i 187 := by decide
theorem li_190 : (190 : Int32) = bk_i 190 := by decide
theorem li_196 : (196 : Int32) = bk_i 196 := by decide
theorem li_197 : (197 : Int32) = bk_i 197 := by decide
theorem li_198 : (198 : Int32) = bk_i 198 := by decide
theorem li_199 : (199 : Int32) = bk_i 199 := by decide
theorem li_200 : (200 : Int32) = bk_i 200 := by decide
theorem li_201 : (201 : Int32) = bk_i 201 := by decide
theorem li_202 : (202 : Int32) = bk_i 202 := by decide
theorem li_203 : (203 : Int32) = bk_i 203 := by decide
theorem li_204 : (204 : Int32) = bk_i 204 := by decide
theorem li_206 : (206 : Int32) = bk_i 206 := by decide
theorem li_210 : (210 : Int32) = bk_i 210 := by decide
theorem li_211 : (211 : Int32) = bk_i 211 := by decide
theorem li_215 : (215 : Int32) = bk_i 215 := by decide
theorem li_223 : (223 : Int32) = bk_i 223 := by decide
theorem li_224 : (224 : Int32) = bk_i 224 := by decide
theorem li_230 : (230 : Int32) = bk_i 230 := by decide
theorem li_232 : (232 : Int32) = bk_i 232 := by decide
theorem li_241 : (241 : Int32) = bk_i 241 := by decide
theorem li_247 : (247 : Int32) = bk_i 247 := by decide
theorem li_250 : (250 : Int32) = bk_i 250 := by decide
theorem li_254 : (254 : Int32) = bk_i 254 := by decide
theorem li_255 : (255 : Int32) = bk_i 255 := by decide
theorem li_258 : (258 : Int32) = bk_i 258 := by decide
theorem li_263 : (263 : Int32) = bk_i 263 := by decide
theorem li_273 : (273 : Int32) = bk_i 273 := by decide
theorem li_283 : (283 : Int32) = bk_i 283 := by decide
theorem li_286 : (286 : Int32) = bk_i 286 := by decide
theorem li_288 : (288 : Int32) = bk_i 288 := by decide
theorem li_293 : (293 : Int32) = bk_i 293 := by decide
theorem li_296 : (296 : Int32) = bk_i 296 := by decide
theorem li_297 : (297 : Int32) = bk_i 297 := by decide
theorem li_306 : (306 : Int32) = bk_i 306 := by decide
theorem li_314 : (314 : Int32) = bk_i 314 := by decide
theorem li_319 : (319 : Int32) = bk_i 319 := by decide
theorem li_323 : (323 : Int32) = bk_i 323 := by decide
theorem li_324 : (324 : Int32) = bk_i 324 := by decide
theorem li_330 : (330 : Int32) = bk_i 330 := by decide
theorem li_360 : (360 : Int32) = bk_i 360 := by decide
theorem li_396 : (396 : Int32) = bk_i 396 := by decide
theorem li_900 : (900 : Int32) = bk_i 900 := by decide
theorem li_999 : (999 : Int32) = bk_i 999 := by decide
theorem li_1000 : (1000 : Int32) = bk_i 1000 := by decide
theorem li_1001 : (1001 : Int32) = bk_i 1001 := by decide
theorem li_1002 : (1002 : Int32) = bk_i 1002 := by decide
theorem li_1003 : (1003 : Int32) = bk_i 1003 := by decide
theorem li_1530 : (1530 : Int32) = bk_i 1530 := by decide
theorem li_2000 : (2000 : Int32) = bk_i 2000 := by decide
theorem li_2001 : (2001 : Int32) = bk_i 2001 := by decide
theorem li_2002 : (2002 : Int32) = bk_i 2002 := by decide
theorem li_2003 : (2003 : Int32) = bk_i 2003 := by decide
theorem li_2004 : (2004 : Int32) = bk_i 2004 := by decide
theorem li_2005 : (2005 : Int32) = bk_i 2005 := by decide
theorem li_2006 : (2006 : Int32) = bk_i 2006 := by decide
theorem li_2007 : (2007 : Int32) = bk_i 2007 := by decide
theorem li_2008 : (2008 : Int32) = bk_i 2008 := by decide
theorem li_2009 : (2009 : Int32) = bk_i 2009 := by decide
theorem li_2010 : (2010 : Int32) = bk_i 2010 := by decide
theorem li_2011 : (2011 : Int32) = bk_i 2011 := by decide
theorem li_2012 : (2012 : Int32) = bk_i 2012 := by decide
theorem li_2997 : (2997 : Int32) = bk_i 2997 := by decide
theorem li_3000 : (3000 : Int32) = bk_i 3000 := by decide
theorem li_3001 : (3001 : Int32) = bk_i 3001 := by decide
theorem li_3002 : (3002 : Int32) = bk_i 3002 := by decide
theorem li_3003 : (3003 : Int32) = bk_i 3003 := by decide
theorem li_3004 : (3004 : Int32) = bk_i 3004 := by decide
theorem li_3005 : (3005 : Int32) = bk_i 3005 := by decide
theorem li_3006 : (3006 : Int32) = bk_i 3006 := by decide
theorem li_3007 : (3007 : Int32) = bk_i 3007 := by decide
theorem li_3008 : (3008 : Int32) = bk_i 3008 := by decide
theorem li_3009 : (3009 : Int32) = bk_i 3009 := by decide
theorem li_4000 : (4000 : Int32) = bk_i 4000 := by decide
theorem li_4001 : (4001 : Int32) = bk_i 4001 := by decide
theorem li_4002 : (4002 : Int32) = bk_i 4002 := by decide
theorem li_4003 : (4003 : Int32) = bk_i 4003 := by decide
theorem li_4004 : (4004 : Int32) = bk_i 4004 := by decide
theorem li_4005 : (4005 : Int32) = bk_i 4005 := by decide
theorem li_4006 : (4006 : Int32) = bk_i 4006 := by decide
theorem li_4007 : (4007 : Int32) = bk_i 4007 := by decide
theorem li_4008 : (4008 : Int32) = bk_i 4008 := by decide
theorem li_4009 : (4009 : Int32) = bk_i 4009 := by decide
theorem li_4010 : (4010 : Int32) = bk_i 4010 := by decide
theorem li_4011 : (4011 : Int32) = bk_i 4011 := by decide
theorem li_4012 : (4012 : Int32) = bk_i 4012 := by decide
theorem li_4013 : (4013 : Int32) = bk_i 4013 := by decide
theorem li_4014 : (4014 : Int32) = bk_i 4014 := by decide
theorem li_4015 : (4015 : Int32) = bk_i 4015 := by decide
theorem li_4016 : (4016 : Int32) = bk_i 4016 := by decide
theorem li_4017 : (4017 : Int32) = bk_i 4017 := by decide
theorem li_4018 : (4018 : Int32) = bk_i 4018 := by decide
theorem li_4019 : (4019 : Int32) = bk_i 4019 := by decide
theorem li_4020 : (4020 : Int32) = bk_i 4020 := by decide
theorem li_4021 : (4021 : Int32) = bk_i 4021 := by decide
theorem li_4022 : (4022 : Int32) = bk_i 4022 := by decide
theorem li_4023 : (4023 : Int32) = bk_i 4023 := by decide
theorem li_4024 : (4024 : Int32) = bk_i 4024 := by decide
theorem li_4025 : (4025 : Int32) = bk_i 4025 := by decide
theorem li_4026 : (4026 : Int32) = bk_i 4026 := by decide
theorem li_4027 : (4027 : Int32) = bk_i 4027 := by decide
theorem li_4028 : (4028 : Int32) = bk_i 4028 := by decide
theorem li_4029 : (4029 : Int32) = bk_i 4029 := by decide
theorem li_4030 : (4030 : Int32) = bk_i 4030 := by decide
theorem li_4031 : (4031 : Int32) = bk_i 4031 := by decide
theorem li_4032 : (4032 : Int32) = bk_i 4032 := by decide
theorem li_4033 : (4033 : Int32) = bk_i 4033 := by decide
theorem li_4034 : (4034 : Int32) = bk_i 4034 := by decide
theorem li_4035 : (4035 : Int32) = bk_i 4035 := by decide
theorem li_4036 : (4036 : Int32) = bk_i 4036 := by decide
theorem li_4037 : (4037 : Int32) = bk_i 4037 := by decide
theorem li_4038 : (4038 : Int32) = bk_i 4038 := by decide
theorem li_4039 : (4039 : Int32) = bk_i 4039 := by decide
theorem li_4040 : (4040 : Int32) = bk_i 4040 := by decide
theorem li_4041 : (4041 : Int32) = bk_i 4041 := by decide
theorem li_4042 : (4042 : Int32) = bk_i 4042 := by decide
theorem li_4043 : (4043 : Int32) = bk_i 4043 := by decide
theorem li_4044 : (4044 : Int32) = bk_i 4044 := by decide
theorem li_4045 : (4045 : Int32) = bk_i 4045 := by decide
theorem li_4046 : (4046 : Int32) = bk_i 4046 := by decide
theorem li_4047 : (4047 : Int32) = bk_i 4047 := by decide
theorem li_4048 : (4048 : Int32) = bk_i 4048 := by decide
theorem li_4049 : (4049 : Int32) = bk_i 4049 := by decide
theorem li_4050 : (4050 : Int32) = bk_i 4050 := by decide
theorem li_4051 : (4051 : Int32) = bk_i 4051 := by decide
theorem li_4052 : (4052 : Int32) = bk_i 4052 := by decide
theorem li_4053 : (4053 : Int32) = bk_i 4053 := by decide
theorem li_4054 : (4054 : Int32) = bk_i 4054 := by decide
theorem li_4055 : (4055 : Int32) = bk_i 4055 := by decide
theorem li_4056 : (4056 : Int32) = bk_i 4056 := by decide
theorem li_4057 : (4057 : Int32) = bk_i 4057 := by decide
theorem li_4058 : (4058 : Int32) = bk_i 4058 := by decide
theorem li_4059 : (4059 : Int32) = bk_i 4059 := by decide
theorem li_4060 : (4060 : Int32) = bk_i 4060 := by decide
theorem li_4061 : (4061 : Int32) = bk_i 4061 := by decide
theorem li_4062 : (4062 : Int32) = bk_i 4062 := by decide
theorem li_4063 : (4063 : Int32) = bk_i 4063 := by decide
theorem li_4064 : (4064 : Int32) = bk_i 4064 := by decide
theorem li_4065 : (4065 : Int32) = bk_i 4065 := by decide
theorem li_4066 : (4066 : Int32) = bk_i 4066 := by decide
theorem li_4067 : (4067 : Int32) = bk_i 4067 := by decide
theorem li_4068 : (4068 : Int32) = bk_i 4068 := by decide
theorem li_4069 : (4069 : Int32) = bk_i 4069 := by decide
theorem li_4070 : (4070 : Int32) = bk_i 4070 := by decide
theorem li_4071 : (4071 : Int32) = bk_i 4071 := by decide
theorem li_4072 : (4072 : Int32) = bk_i 4072 := by decide
theorem li_4073 : (4073 : Int32) = bk_i 4073 := by decide
theorem li_4074 : (4074 : Int32) = bk_i 4074 := by decide
theorem li_4075 : (4075 : Int32) = bk_i 4075 := by decide
theorem li_4076 : (4076 : Int32) = bk_i 4076 := by decide
theorem li_4077 : (4077 : Int32) = bk_i 4077 := by decide
theorem li_4078 : (4078 : Int32) = bk_i 4078 := by decide
theorem li_4079 : (4079 : Int32) = bk_i 4079 := by decide
theorem li_4080 : (4080 : Int32) = bk_i 4080 := by decide
theorem li_4081 : (4081 : Int32) = bk_i 4081 := by decide
theorem li_4082 : (4082 : Int32) = bk_i 4082 := by decide
theorem li_4083 : (4083 : Int32) = bk_i 4083 := by decide
theorem li_4084 : (4084 : Int32) = bk_i 4084 := by decide
theorem li_4085 : (4085 : Int32) = bk_i 4085 := by decide
theorem li_4086 : (4086 : Int32) = bk_i 4086 := by decide
theorem li_4087 : (4087 : Int32) = bk_i 4087 := by decide
theorem li_4088 : (4088 : Int32) = bk_i 4088 := by decide
theorem li_4089 : (4089 : Int32) = bk_i 4089 := by decide
theorem li_4090 : (4090 : Int32) = bk_i 4090 := by decide
theorem li_4091 : (4091 : Int32) = bk_i 4091 := by decide
theorem li_4092 : (4092 : Int32) = bk_i 4092 := by decide
theorem li_4093 : (4093 : Int32) = bk_i 4093 := by decide
theorem li_4094 : (4094 : Int32) = bk_i 4094 := by decide
theorem li_4095 : (4095 : Int32) = bk_i 4095 := by decide
theorem li_4096 : (4096 : Int32) = bk_i 4096 := by decide
theorem li_4097 : (4097 : Int32) = bk_i 4097 := by decide
theorem li_4098 : (4098 : Int32) = bk_i 4098 := by decide
theorem li_4099 : (4099 : Int32) = bk_i 4099 := by decide
theorem li_12345 : (12345 : Int32) = bk_i 12345 := by decide
theorem li_1000000 : (1000000 : Int32) = bk_i 1000000 := by decide
theorem li_268435456 : (268435456 : Int32) = bk_i 268435456 := by decide
theorem li_536870912 : (536870912 : Int32) = bk_i 536870912 := by decide
theorem li_1103515245 : (1103515245 : Int32) = bk_i 1103515245 := by decide
theorem ll_0 : (0 : Int64) = bk_l 0 := by decide
theorem ll_1 : (1 : Int64) = bk_l 1 := by decide
theorem ll_2 : (2 : Int64) = bk_l 2 := by decide
theorem ll_3 : (3 : Int64) = bk_l 3 := by decide
theorem ll_4 : (4 : Int64) = bk_l 4 := by decide
theorem ll_5 : (5 : Int64) = bk_l 5 := by decide
theorem ll_6 : (6 : Int64) = bk_l 6 := by decide
theorem ll_7 : (7 : Int64) = bk_l 7 := by decide
theorem ll_8 : (8 : Int64) = bk_l 8 := by decide
theorem ll_9 : (9 : Int64) = bk_l 9 := by decide
theorem ll_10 : (10 : Int64) = bk_l 10 := by decide
theorem ll_11 : (11 : Int64) = bk_l 11 := by decide
theorem ll_12 : (12 : Int64) = bk_l 12 := by decide
theorem ll_13 : (13 : Int64) = bk_l 13 := by decide
theorem ll_14 : (14 : Int64) = bk_l 14 := by decide
theorem ll_15 : (15 : Int64) = bk_l 15 := by decide
theorem ll_16 : (16 : Int64) = bk_l 16 := by decide
theorem ll_17 : (17 : Int64) = bk_l 17 := by decide
theorem ll_18 : (18 : Int64) = bk_l 18 := by decide
theorem ll_19 : (19 : Int64) = bk_l 19 := by decide
theorem ll_20 : (20 : Int64) = bk_l 20 := by decide
theorem ll_21 : (21 : Int64) = bk_l 21 := by decide
theorem ll_22 : (22 : Int64) = bk_l 22 := by decide
theorem ll_23 : (23 : Int64) = bk_l 23 := by decide
theorem ll_24 : (24 : Int64) = bk_l 24 := by decide
theorem ll_25 : (25 : Int64) = bk_l 25 := by decide
theorem ll_26 : (26 : Int64) = bk_l 26 := by decide
theorem ll_27 : (27 : Int64) = bk_l 27 := by decide
theorem ll_28 : (28 : Int64) = bk_l 28 := by decide
theorem ll_29 : (29 : Int64) = bk_l 29 := by decide
theorem ll_30 : (30 : Int64) = bk_l 30 := by decide
theorem ll_31 : (31 : Int64) = bk_l 31 := by decide
theorem ll_32 : (32 : Int64) = bk_l 32 := by decide
theorem ll_33 : (33 : Int64) = bk_l 33 := by decide
theorem ll_34 : (34 : Int64) = bk_l 34 := by decide
theorem ll_35 : (35 : Int64) = bk_l 35 := by decide
theorem ll_36 : (36 : Int64) = bk_l 36 := by decide
theorem ll_37 : (37 : Int64) = bk_l 37 := by decide
theorem ll_38 : (38 : Int64) = bk_l 38 := by decide
theorem ll_39 : (39 : Int64) = bk_l 39 := by decide
theorem ll_40 : (40 : Int64) = bk_l 40 := by decide
theorem ll_41 : (41 : Int64) = bk_l 41 := by decide
theorem ll_42 : (42 : Int64) = bk_l 42 := by decide
theorem ll_43 : (43 : Int64) = bk_l 43 := by decide
theorem ll_44 : (44 : Int64) = bk_l 44 := by decide
theorem ll_45 : (45 : Int64) = bk_l 45 := by decide
theorem ll_46 : (46 : Int64) = bk_l 46 := by decide
theorem ll_47 : (47 : Int64) = bk_l 47 := by decide
theorem ll_48 : (48 : Int64) = bk_l 48 := by decide
theorem ll_49 : (49 : Int64) = bk_l 49 := by decide
theorem ll_50 : (50 : Int64) = bk_l 50 := by decide
theorem ll_51 : (51 : Int64) = bk_l 51 := by decide
theorem ll_52 : (52 : Int64) = bk_l 52 := by decide
theorem ll_53 : (53 : Int64) = bk_l 53 := by decide
theorem ll_54 : (54 : Int64) = bk_l 54 := by decide
theorem ll_55 : (55 : Int64) = bk_l 55 := by decide
theorem ll_56 : (56 : Int64) = bk_l 56 := by decide
theorem ll_57 : (57 : Int64) = bk_l 57 := by decide
theorem ll_58 : (58 : Int64) = bk_l 58 := by decide
theorem ll_59 : (59 : Int64) = bk_l 59 := by decide
theorem ll_60 : (60 : Int64) = bk_l 60 := by decide
theorem ll_61 : (61 : Int64) = bk_l 61 := by decide
theorem ll_62 : (62 : Int64) = bk_l 62 := by decide
theorem ll_63 : (63 : Int64) = bk_l 63 := by decide
theorem ll_64 : (64 : Int64) = bk_l 64 := by decide
theorem ll_65 : (65 : Int64) = bk_l 65 := by decide
theorem ll_66 : (66 : Int64) = bk_l 66 := by decide
theorem ll_67 : (67 : Int64) = bk_l 67 := by decide
theorem ll_68 : (68 : Int64) = bk_l 68 := by decide
theorem ll_69 : (69 : Int64) = bk_l 69 := by decide
theorem ll_70 : (70 : Int64) = bk_l 70 := by decide
theorem ll_71 : (71 : Int64) = bk_l 71 := by decide
theorem ll_72 : (72 : Int64) = bk_l 72 := by decide
theorem ll_73 : (73 : Int64) = bk_l 73 := by decide
theorem ll_74 : (74 : Int64) = bk_l 74 := by decide
theorem ll_75 : (75 : Int64) = bk_l 75 := by decide
theorem ll_76 : (76 : Int64) = bk_l 76 := by decide
theorem ll_77 : (77 : Int64) = bk_l 77 := by decide
theorem ll_78 : (78 : Int64) = bk_l 78 := by decide
theorem ll_79 : (79 : Int64) = bk_l 79 := by decide
theorem ll_80 : (80 : Int64) = bk_l 80 := by decide
theorem ll_81 : (81 : Int64) = bk_l 81 := by decide
theorem ll_82 : (82 : Int64) = bk_l 82 := by decide
theorem ll_83 : (83 : Int64) = bk_l 83 := by decide
theorem ll_84 : (84 : Int64) = bk_l 84 := by decide
theorem ll_85 : (85 : Int64) = bk_l 85 := by decide
theorem ll_86 : (86 : Int64) = bk_l 86 := by decide
theorem ll_88 : (88 : Int64) = bk_l 88 := by decide
theorem ll_89 : (89 : Int64) = bk_l 89 := by decide
theorem ll_90 : (90 : Int64) = bk_l 90 := by decide
theorem ll_91 : (91 : Int64) = bk_l 91 := by decide
theorem ll_93 : (93 : Int64) = bk_l 93 := by decide
theorem ll_94 : (94 : Int64) = bk_l 94 := by decide
theorem ll_95 : (95 : Int64) = bk_l 95 := by decide
theorem ll_96 : (96 : Int64) = bk_l 96 := by decide
theorem ll_97 : (97 : Int64) = bk_l 97 := by decide
theorem ll_98 : (98 : Int64) = bk_l 98 := by decide
theorem ll_99 : (99 : Int64) = bk_l 99 := by decide
theorem ll_100 : (100 : Int64) = bk_l 100 := by decide
theorem ll_101 : (101 : Int64) = bk_l 101 := by decide
theorem ll_102 : (102 : Int64) = bk_l 102 := by decide
theorem ll_103 : (103 : Int64) = bk_l 103 := by decide
theorem ll_104 : (104 : Int64) = bk_l 104 := by decide
theorem ll_105 : (105 : Int64) = bk_l 105 := by decide
theorem ll_106 : (106 : Int64) = bk_l 106 := by decide
theorem ll_107 : (107 : Int64) = bk_l 107 := by decide
theorem ll_108 : (108 : Int64) = bk_l 108 := by decide
theorem ll_110 : (110 : Int64) = bk_l 110 := by decide
theorem ll_111 : (111 : Int64) = bk_l 111 := by decide
theorem ll_113 : (113 : Int64) = bk_l 113 := by decide
theorem ll_114 : (114 : Int64) = bk_l 114 := by decide
theorem ll_115 : (115 : Int64) = bk_l 115 := by decide
theorem ll_116 : (116 : Int64) = bk_l 116 := by decide
theorem ll_118 : (118 : Int64) = bk_l 118 := by decide
theorem ll_119 : (119 : Int64) = bk_l 119 := by decide
theorem ll_120 : (120 : Int64) = bk_l 120 := by decide
theorem ll_121 : (121 : Int64) = bk_l 121 := by decide
theorem ll_122 : (122 : Int64) = bk_l 122 := by decide
theorem ll_123 : (123 : Int64) = bk_l 123 := by decide
theorem ll_124 : (124 : Int64) = bk_l 124 := by decide
theorem ll_125 : (125 : Int64) = bk_l 125 := by decide
theorem ll_126 : (126 : Int64) = bk_l 126 := by decide
theorem ll_127 : (127 : Int64) = bk_l 127 := by decide
theorem ll_131 : (131 : Int64) = bk_l 131 := by decide
theorem ll_132 : (132 : Int64) = bk_l 132 := by decide
theorem ll_133 : (133 : Int64) = bk_l 133 := by decide
theorem ll_134 : (134 : Int64) = bk_l 134 := by decide
theorem ll_135 : (135 : Int64) = bk_l 135 := by decide
theorem ll_136 : (136 : Int64) = bk_l 136 := by decide
theorem ll_137 : (137 : Int64) = bk_l 137 := by decide
theorem ll_138 : (138 : Int64) = bk_l 138 := by decide
theorem ll_139 : (139 : Int64) = bk_l 139 := by decide
theorem ll_140 : (140 : Int64) = bk_l 140 := by decide
theorem ll_142 : (142 : Int64) = bk_l 142 := by decide
theorem ll_143 : (143 : Int64) = bk_l 143 := by decide
theorem ll_146 : (146 : Int64) = bk_l 146 := by decide
theorem ll_147 : (147 : Int64) = bk_l 147 := by decide
theorem ll_149 : (149 : Int64) = bk_l 149 := by decide
theorem ll_150 : (150 : Int64) = bk_l 150 := by decide
theorem ll_151 : (151 : Int64) = bk_l 151 := by decide
theorem ll_155 : (155 : Int64) = bk_l 155 := by decide
theorem ll_158 : (158 : Int64) = bk_l 158 := by decide
theorem ll_159 : (159 : Int64) = bk_l 159 := by decide
theorem ll_160 : (160 : Int64) = bk_l 160 := by decide
theorem ll_162 : (162 : Int64) = bk_l 162 := by decide
theorem ll_167 : (167 : Int64) = bk_l 167 := by decide
theorem ll_170 : (170 : Int64) = bk_l 170 := by decide
theorem ll_179 : (179 : Int64) = bk_l 179 := by decide
theorem ll_180 : (180 : Int64) = bk_l 180 := by decide
theorem ll_182 : (182 : Int64) = bk_l 182 := by decide
theorem ll_183 : (183 : Int64) = bk_l 183 := by decide
theorem ll_187 : (187 : Int64) = bk_l 187 := by decide
theorem ll_190 : (190 : Int64) = bk_l 190 := by decide
theorem ll_196 : (196 : Int64) = bk_l 196 := by decide
theorem ll_197 : (197 : Int64) = bk_l 197 := by decide
theorem ll_198 : (198 : Int64) = bk_l 198 := by decide
theorem ll_199 : (199 : Int64) = bk_l 199 := by decide
theorem ll_200 : (200 : Int64) = bk_l 200 := by decide
theorem ll_201 : (201 : Int64) = bk_l 201 := by decide
theorem ll_202 : (202 : Int64) = bk_l 202 := by decide
theorem ll_203 : (203 : Int64) = bk_l 203 := by decide
theorem ll_204 : (204 : Int64) = bk_l 204 := by decide
theorem ll_206 : (206 : Int64) = bk_l 206 := by decide
theorem ll_210 : (210 : Int64) = bk_l 210 := by decide
theorem ll_211 : (211 : Int64) = bk_l 211 := by decide
theorem ll_215 : (215 : Int64) = bk_l 215 := by decide
theorem ll_223 : (223 : Int64) = bk_l 223 := by decide
theorem ll_224 : (224 : Int64) = bk_l 224 := by decide
theorem ll_230 : (230 : Int64) = bk_l 230 := by decide
theorem ll_232 : (232 : Int64) = bk_l 232 := by decide
theorem ll_241 : (241 : Int64) = bk_l 241 := by decide
theorem ll_247 : (247 : Int64) = bk_l 247 := by decide
theorem ll_250 : (250 : Int64) = bk_l 250 := by decide
theorem ll_254 : (254 : Int64) = bk_l 254 := by decide
theorem ll_255 : (255 : Int64) = bk_l 255 := by decide
theorem ll_258 : (258 : Int64) = bk_l 258 := by decide
theorem ll_263 : (263 : Int64) = bk_l 263 := by decide
theorem ll_273 : (273 : Int64) = bk_l 273 := by decide
theorem ll_283 : (283 : Int64) = bk_l 283 := by decide
theorem ll_286 : (286 : Int64) = bk_l 286 := by decide
theorem ll_288 : (288 : Int64) = bk_l 288 := by decide
theorem ll_293 : (293 : Int64) = bk_l 293 := by decide
theorem ll_296 : (296 : Int64) = bk_l 296 := by decide
theorem ll_297 : (297 : Int64) = bk_l 297 := by decide
theorem ll_1000000 : (1000000 : Int64) = bk_l 1000000 := by decide
theorem ll_4294967295 : (4294967295 : Int64) = bk_l 4294967295 := by decide
/-- what never changes: which cell holds which -/
def bk_fx : List (Nat × Nat × Nat × Nat) := [(0, 64, 1, 70), (0, 64, 2, 71), (0, 64, 3, 72), (0, 64, 7, 73), (0, 64, 11, 84), (0, 64, 12, 85), (0, 64, 13, 86), (0, 64, 15, 87), (0, 64, 16, 88), (0, 64, 17, 89), (0, 64, 18, 90), (0, 64, 19, 91), (0, 64, 20, 92), (0, 64, 21, 93), (0, 64, 22, 98), (0, 64, 23, 99), (2, 70, 4, 64), (2, 71, 4, 64), (4, 102, 1, 103), (4, 102, 2, 104), (4, 102, 3, 105), (4, 102, 4, 106), (4, 102, 16, 107), (4, 102, 17, 108), (4, 102, 18, 109), (4, 102, 21, 110), (4, 102, 22, 111), (4, 102, 23, 112), (4, 102, 24, 113), (4, 102, 25, 114), (4, 102, 26, 115), (4, 102, 27, 116), (4, 102, 28, 117), (4, 102, 29, 118), (4, 102, 30, 119), (4, 102, 31, 120), (4, 102, 32, 121)]
def bFix (g : bG) : Prop := (∀ q ∈ bk_fx, g q.1 q.2.1 q.2.2.1 = .ref q.2.2.2) ∧ (∀ i, i < 10 → g 105 73 i = .ref (74 + i) ∧ g 2 (74 + i) 4 = .ref 64) ∧ (∀ i, i < 4 → g 106 93 i = .ref (94 + i)) ∧ (∀ i, i < 2 → g 105 99 i = .ref (100 + i) ∧ g 2 (100 + i) 4 = .ref 64)
section R
variable {κ : Nat → Nat} {cp cs : bF} {cj : bFJ} {X : bX} {Y : bY} {tp ts : bF} {tj tk : bFJ} {g : bG} {n : Nat × Nat} {z v : Int} {w : Int64}
theorem bR_1 {t a : Nat} (e : t = bk_so a) (h0 : 0 ≤ z) (h1 : z < 2147483648) (h : bk_kd κ a z.toNat = 1) : (bk_M κ (cp, cs, cj) Y g n).1 t a (bk_ix (bk_i z)) = .int (bk_i (cp a z)) := by
  rw [bi_ix h0 h1, bM_1 e h, Int.toNat_of_nonneg h0]
theorem bW_1 {t a : Nat} (e : t = bk_so a) (h0 : 0 ≤ z) (h1 : z < 2147483648) (h : bk_kd κ a z.toNat = 1) : bk_put (bk_M κ (cp, cs, cj) Y g n) t a (bk_ix (bk_i z)) (.int (bk_i v)) = bk_M κ (bU cp a z v, cs, cj) Y g n := by
  rw [bi_ix h0 h1, bP_1 e h, Int.toNat_of_nonneg h0]
theorem bR_2 {t a : Nat} (e : t = bk_so a) (h0 : 0 ≤ z) (h1 : z < 2147483648) (h : bk_kd κ a z.toNat = 2) : (bk_M κ (cp, cs, cj) Y g n).1 t a (bk_ix (bk_i z)) = .int (bk_i (cs a z)) := by
  rw [bi_ix h0 h1, bM_2 e h, Int.toNat_of_nonneg h0]
theorem bW_2 {t a : Nat} (e : t = bk_so a) (h0 : 0 ≤ z) (h1 : z < 2147483648) (h : bk_kd κ a z.toNat = 2) : bk_put (bk_M κ (cp, cs, cj) Y g n) t a (bk_ix (bk_i z)) (.int (bk_i v)) = bk_M κ (cp, bU cs a z v, cj) Y g n := by
  rw [bi_ix h0 h1, bP_2 e h, Int.toNat_of_nonneg h0]
theorem bR_3 {t a : Nat} (e : t = bk_so a) (h0 : 0 ≤ z) (h1 : z < 2147483648) (h : bk_kd κ a z.toNat = 3) : (bk_M κ (cp, cs, cj) Y g n).1 t a (bk_ix (bk_i z)) = .long (cj a z) := by
  rw [bi_ix h0 h1, bM_3 e h, Int.toNat_of_nonneg h0]
theorem bW_3 {t a : Nat} (e : t = bk_so a) (h0 : 0 ≤ z) (h1 : z < 2147483648) (h : bk_kd κ a z.toNat = 3) : bk_put (bk_M κ (cp, cs, cj) Y g n) t a (bk_ix (bk_i z)) (.long w) = bk_M κ (cp, cs, bUJ cj a z w) Y g n := by
  rw [bi_ix h0 h1, bP_3 e h, Int.toNat_of_nonneg h0]
theorem bR_4 {t a : Nat} (e : t = bk_so a) (h0 : 0 ≤ z) (h1 : z < 2147483648) (h : bk_kd κ a z.toNat = 4) : (bk_M κ X (tp, tj, ts, tk) g n).1 t a (bk_ix (bk_i z)) = .int (bk_i (tp a z)) := by
  rw [bi_ix h0 h1, bM_4 e h, Int.toNat_of_nonneg h0]
theorem bW_4 {t a : Nat} (e : t = bk_so a) (h0 : 0 ≤ z) (h1 : z < 2147483648) (h : bk_kd κ a z.toNat = 4) : bk_put (bk_M κ X (tp, tj, ts, tk) g n) t a (bk_ix (bk_i z)) (.int (bk_i v)) = bk_M κ X (bU tp a z v, tj, ts, tk) g n := by
  rw [bi_ix h0 h1, bP_4 e h, Int.toNat_of_nonneg h0]
theorem bR_5 {t a : Nat} (e : t = bk_so a) (h0 : 0 ≤ z) (h1 : z < 2147483648) (h : bk_kd κ a z.toNat = 5) : (bk_M κ X (tp, tj, ts, tk) g n).1 t a (bk_ix (bk_i z)) = .long (tj a z) := by
  rw [bi_ix h0 h1, bM_5 e h, Int.toNat_of_nonneg h0]
theorem bW_5 {t a : Nat} (e : t = bk_so a) (h0 : 0 ≤ z) (h1 : z < 2147483648) (h : bk_kd κ a z.toNat = 5) : bk_put (bk_M κ X (tp, tj, ts, tk) g n) t a (bk_ix (bk_i z)) (.long w) = bk_M κ X (tp, bUJ tj a z w, ts, tk) g n := by
  rw [bi_ix h0 h1, bP_5 e h, Int.toNat_of_nonneg h0]
theorem bR_6 {t a : Nat} (e : t = bk_so a) (h0 : 0 ≤ z) (h1 : z < 2147483648) (h : bk_kd κ a z.toNat = 6) : (bk_M κ X (tp, tj, ts, tk) g n).1 t a (bk_ix (bk_i z)) = .int (bk_i (ts a z)) := by
  rw [bi_ix h0 h1, bM_6 e h, Int.toNat_of_nonneg h0]
theorem bW_6 {t a : Nat} (e : t = bk_so a) (h0 : 0 ≤ z) (h1 : z < 2147483648) (h : bk_kd κ a z.toNat = 6) : bk_put (bk_M κ X (tp, tj, ts, tk) g n) t a (bk_ix (bk_i z)) (.int (bk_i v)) = bk_M κ X (tp, tj, bU ts a z v, tk) g n := by
  rw [bi_ix h0 h1, bP_6 e h, Int.toNat_of_nonneg h0]
theorem bR_7 {t a : Nat} (e : t = bk_so a) (h0 : 0 ≤ z) (h1 : z < 2147483648) (h : bk_kd κ a z.toNat = 7) : (bk_M κ X (tp, tj, ts, tk) g n).1 t a (bk_ix (bk_i z)) = .long (tk a z) := by
  rw [bi_ix h0 h1, bM_7 e h, Int.toNat_of_nonneg h0]
theorem bW_7 {t a : Nat} (e : t = bk_so a) (h0 : 0 ≤ z) (h1 : z < 2147483648) (h : bk_kd κ a z.toNat = 7) : bk_put (bk_M κ X (tp, tj, ts, tk) g n) t a (bk_ix (bk_i z)) (.long w) = bk_M κ X (tp, tj, ts, bUJ tk a z w) g n := by
  rw [bi_ix h0 h1, bP_7 e h, Int.toNat_of_nonneg h0]
theorem ga72 (h0 : 0 ≤ z) (h1 : z < 900) : (bk_M κ (cp, cs, cj) Y g n).1 101 72 (bk_ix (bk_i z)) = .int (bk_i (cp 72 z)) := bR_1 rfl h0 (by omega) (if_pos (by omega))
theorem pa72 (h0 : 0 ≤ z) (h1 : z < 900) : bk_put (bk_M κ (cp, cs, cj) Y g n) 101 72 (bk_ix (bk_i z)) (.int (bk_i v)) = bk_M κ (bU cp 72 z v, cs, cj) Y g n := bW_1 rfl h0 (by omega) (if_pos (by omega))
theorem ga84 (h0 : 0 ≤ z) (h1 : z < 288) : (bk_M κ (cp, cs, cj) Y g n).1 100 84 (bk_ix (bk_i z)) = .int (bk_i (cs 84 z)) := bR_2 rfl h0 (by omega) (if_pos (by omega))
theorem pa84 (h0 : 0 ≤ z) (h1 : z < 288) : bk_put (bk_M κ (cp, cs, cj) Y g n) 100 84 (bk_ix (bk_i z)) (.int (bk_i v)) = bk_M κ (cp, bU cs 84 z v, cj) Y g n := bW_2 rfl h0 (by omega) (if_pos (by omega))
theorem ga85 (h0 : 0 ≤ z) (h1 : z < 36) : (bk_M κ (cp, cs, cj) Y g n).1 100 85 (bk_ix (bk_i z)) = .int (bk_i (cs 85 z)) := bR_2 rfl h0 (by omega) (if_pos (by omega))
theorem pa85 (h0 : 0 ≤ z) (h1 : z < 36) : bk_put (bk_M κ (cp, cs, cj) Y g n) 100 85 (bk_ix (bk_i z)) (.int (bk_i v)) = bk_M κ (cp, bU cs 85 z v, cj) Y g n := bW_2 rfl h0 (by omega) (if_pos (by omega))
theorem ga86 (h0 : 0 ≤ z) (h1 : z < 36) : (bk_M κ (cp, cs, cj) Y g n).1 100 86 (bk_ix (bk_i z)) = .int (bk_i (cs 86 z)) := bR_2 rfl h0 (by omega) (if_pos (by omega))
theorem pa86 (h0 : 0 ≤ z) (h1 : z < 36) : bk_put (bk_M κ (cp, cs, cj) Y g n) 100 86 (bk_ix (bk_i z)) (.int (bk_i v)) = bk_M κ (cp, bU cs 86 z v, cj) Y g n := bW_2 rfl h0 (by omega) (if_pos (by omega))
theorem ga90 (h0 : 0 ≤ z) (h1 : z < 6) : (bk_M κ (cp, cs, cj) Y g n).1 100 90 (bk_ix (bk_i z)) = .int (bk_i (cs 90 z)) := bR_2 rfl h0 (by omega) (if_pos (by omega))
theorem pa90 (h0 : 0 ≤ z) (h1 : z < 6) : bk_put (bk_M κ (cp, cs, cj) Y g n) 100 90 (bk_ix (bk_i z)) (.int (bk_i v)) = bk_M κ (cp, bU cs 90 z v, cj) Y g n := bW_2 rfl h0 (by omega) (if_pos (by omega))
theorem ga92 (h0 : 0 ≤ z) (h1 : z < 324) : (bk_M κ (cp, cs, cj) Y g n).1 100 92 (bk_ix (bk_i z)) = .int (bk_i (cs 92 z)) := bR_2 rfl h0 (by omega) (if_pos (by omega))
theorem pa92 (h0 : 0 ≤ z) (h1 : z < 324) : bk_put (bk_M κ (cp, cs, cj) Y g n) 100 92 (bk_ix (bk_i z)) (.int (bk_i v)) = bk_M κ (cp, bU cs 92 z v, cj) Y g n := bW_2 rfl h0 (by omega) (if_pos (by omega))
theorem ga103 (h0 : 0 ≤ z) (h1 : z < 2997) : (bk_M κ X (tp, tj, ts, tk) g n).1 100 103 (bk_ix (bk_i z)) = .int (bk_i (tp 103 z)) := bR_4 rfl h0 (by omega) (if_pos (by omega))
theorem pa103 (h0 : 0 ≤ z) (h1 : z < 2997) : bk_put (bk_M κ X (tp, tj, ts, tk) g n) 100 103 (bk_ix (bk_i z)) (.int (bk_i v)) = bk_M κ X (bU tp 103 z v, tj, ts, tk) g n := bW_4 rfl h0 (by omega) (if_pos (by omega))
theorem ga105 (h0 : 0 ≤ z) (h1 : z < 900) : (bk_M κ X (tp, tj, ts, tk) g n).1 100 105 (bk_ix (bk_i z)) = .int (bk_i (tp 105 z)) := bR_4 rfl h0 (by omega) (if_pos (by omega))
theorem pa105 (h0 : 0 ≤ z) (h1 : z < 900) : bk_put (bk_M κ X (tp, tj, ts, tk) g n) 100 105 (bk_ix (bk_i z)) (.int (bk_i v)) = bk_M κ X (bU tp 105 z v, tj, ts, tk) g n := bW_4 rfl h0 (by omega) (if_pos (by omega))
theorem ga119 (h0 : 0 ≤ z) (h1 : z < 4) : (bk_M κ X (tp, tj, ts, tk) g n).1 100 119 (bk_ix (bk_i z)) = .int (bk_i (tp 119 z)) := bR_4 rfl h0 (by omega) (if_pos (by omega))
theorem pa119 (h0 : 0 ≤ z) (h1 : z < 4) : bk_put (bk_M κ X (tp, tj, ts, tk) g n) 100 119 (bk_ix (bk_i z)) (.int (bk_i v)) = bk_M κ X (bU tp 119 z v, tj, ts, tk) g n := bW_4 rfl h0 (by omega) (if_pos (by omega))
theorem ga120 (h0 : 0 ≤ z) (h1 : z < 4) : (bk_M κ X (tp, tj, ts, tk) g n).1 100 120 (bk_ix (bk_i z)) = .int (bk_i (tp 120 z)) := bR_4 rfl h0 (by omega) (if_pos (by omega))
theorem pa120 (h0 : 0 ≤ z) (h1 : z < 4) : bk_put (bk_M κ X (tp, tj, ts, tk) g n) 100 120 (bk_ix (bk_i z)) (.int (bk_i v)) = bk_M κ X (bU tp 120 z v, tj, ts, tk) g n := bW_4 rfl h0 (by omega) (if_pos (by omega))
theorem ga106 (h0 : 0 ≤ z) (h1 : z < 999) : (bk_M κ X (tp, tj, ts, tk) g n).1 100 106 (bk_ix (bk_i z)) = .int (bk_i (ts 106 z)) := bR_6 rfl h0 (by omega) (if_pos (by omega))
theorem pa106 (h0 : 0 ≤ z) (h1 : z < 999) : bk_put (bk_M κ X (tp, tj, ts, tk) g n) 100 106 (bk_ix (bk_i z)) (.int (bk_i v)) = bk_M κ X (tp, tj, bU ts 106 z v, tk) g n := bW_6 rfl h0 (by omega) (if_pos (by omega))
theorem ga107 (h0 : 0 ≤ z) (h1 : z < 900) : (bk_M κ X (tp, tj, ts, tk) g n).1 100 107 (bk_ix (bk_i z)) = .int (bk_i (ts 107 z)) := bR_6 rfl h0 (by omega) (if_pos (by omega))
theorem pa107 (h0 : 0 ≤ z) (h1 : z < 900) : bk_put (bk_M κ X (tp, tj, ts, tk) g n) 100 107 (bk_ix (bk_i z)) (.int (bk_i v)) = bk_M κ X (tp, tj, bU ts 107 z v, tk) g n := bW_6 rfl h0 (by omega) (if_pos (by omega))
theorem ga108 (h0 : 0 ≤ z) (h1 : z < 7) : (bk_M κ X (tp, tj, ts, tk) g n).1 100 108 (bk_ix (bk_i z)) = .int (bk_i (ts 108 z)) := bR_6 rfl h0 (by omega) (if_pos (by omega))
theorem pa108 (h0 : 0 ≤ z) (h1 : z < 7) : bk_put (bk_M κ X (tp, tj, ts, tk) g n) 100 108 (bk_ix (bk_i z)) (.int (bk_i v)) = bk_M κ X (tp, tj, bU ts 108 z v, tk) g n := bW_6 rfl h0 (by omega) (if_pos (by omega))
theorem ga109 (h0 : 0 ≤ z) (h1 : z < 5) : (bk_M κ X (tp, tj, ts, tk) g n).1 100 109 (bk_ix (bk_i z)) = .int (bk_i (ts 109 z)) := bR_6 rfl h0 (by omega) (if_pos (by omega))
theorem pa109 (h0 : 0 ≤ z) (h1 : z < 5) : bk_put (bk_M κ X (tp, tj, ts, tk) g n) 100 109 (bk_ix (bk_i z)) (.int (bk_i v)) = bk_M κ X (tp, tj, bU ts 109 z v, tk) g n := bW_6 rfl h0 (by omega) (if_pos (by omega))
theorem ga110 (h0 : 0 ≤ z) (h1 : z < 288) : (bk_M κ X (tp, tj, ts, tk) g n).1 100 110 (bk_ix (bk_i z)) = .int (bk_i (ts 110 z)) := bR_6 rfl h0 (by omega) (if_pos (by omega))
theorem pa110 (h0 : 0 ≤ z) (h1 : z < 288) : bk_put (bk_M κ X (tp, tj, ts, tk) g n) 100 110 (bk_ix (bk_i z)) (.int (bk_i v)) = bk_M κ X (tp, tj, bU ts 110 z v, tk) g n := bW_6 rfl h0 (by omega) (if_pos (by omega))
theorem ga111 (h0 : 0 ≤ z) (h1 : z < 36) : (bk_M κ X (tp, tj, ts, tk) g n).1 100 111 (bk_ix (bk_i z)) = .int (bk_i (ts 111 z)) := bR_6 rfl h0 (by omega) (if_pos (by omega))
theorem pa111 (h0 : 0 ≤ z) (h1 : z < 36) : bk_put (bk_M κ X (tp, tj, ts, tk) g n) 100 111 (bk_ix (bk_i z)) (.int (bk_i v)) = bk_M κ X (tp, tj, bU ts 111 z v, tk) g n := bW_6 rfl h0 (by omega) (if_pos (by omega))
theorem ga116 (h0 : 0 ≤ z) (h1 : z < 6) : (bk_M κ X (tp, tj, ts, tk) g n).1 100 116 (bk_ix (bk_i z)) = .int (bk_i (ts 116 z)) := bR_6 rfl h0 (by omega) (if_pos (by omega))
theorem pa116 (h0 : 0 ≤ z) (h1 : z < 6) : bk_put (bk_M κ X (tp, tj, ts, tk) g n) 100 116 (bk_ix (bk_i z)) (.int (bk_i v)) = bk_M κ X (tp, tj, bU ts 116 z v, tk) g n := bW_6 rfl h0 (by omega) (if_pos (by omega))
theorem ga118 (h0 : 0 ≤ z) (h1 : z < 324) : (bk_M κ X (tp, tj, ts, tk) g n).1 100 118 (bk_ix (bk_i z)) = .int (bk_i (ts 118 z)) := bR_6 rfl h0 (by omega) (if_pos (by omega))
theorem pa118 (h0 : 0 ≤ z) (h1 : z < 324) : bk_put (bk_M κ X (tp, tj, ts, tk) g n) 100 118 (bk_ix (bk_i z)) (.int (bk_i v)) = bk_M κ X (tp, tj, bU ts 118 z v, tk) g n := bW_6 rfl h0 (by omega) (if_pos (by omega))
theorem ga87 (h0 : 0 ≤ z) (h1 : z < 36) : (bk_M κ (cp, cs, cj) Y g n).1 102 87 (bk_ix (bk_i z)) = .int (bk_i (cs 87 z)) := bR_2 rfl h0 (by omega) (if_pos (by omega))
theorem pa87 (h0 : 0 ≤ z) (h1 : z < 36) : bk_put (bk_M κ (cp, cs, cj) Y g n) 102 87 (bk_ix (bk_i z)) (.int (bk_i v)) = bk_M κ (cp, bU cs 87 z v, cj) Y g n := bW_2 rfl h0 (by omega) (if_pos (by omega))
theorem ga91 (h0 : 0 ≤ z) (h1 : z < 360) : (bk_M κ (cp, cs, cj) Y g n).1 102 91 (bk_ix (bk_i z)) = .int (bk_i (cs 91 z)) := bR_2 rfl h0 (by omega) (if_pos (by omega))
theorem pa91 (h0 : 0 ≤ z) (h1 : z < 360) : bk_put (bk_M κ (cp, cs, cj) Y g n) 102 91 (bk_ix (bk_i z)) (.int (bk_i v)) = bk_M κ (cp, bU cs 91 z v, cj) Y g n := bW_2 rfl h0 (by omega) (if_pos (by omega))
theorem ga104 (h0 : 0 ≤ z) (h1 : z < 2) : (bk_M κ X (tp, tj, ts, tk) g n).1 102 104 (bk_ix (bk_i z)) = .int (bk_i (tp 104 z)) := bR_4 rfl h0 (by omega) (if_pos (by omega))
theorem pa104 (h0 : 0 ≤ z) (h1 : z < 2) : bk_put (bk_M κ X (tp, tj, ts, tk) g n) 102 104 (bk_ix (bk_i z)) (.int (bk_i v)) = bk_M κ X (bU tp 104 z v, tj, ts, tk) g n := bW_4 rfl h0 (by omega) (if_pos (by omega))
theorem ga112 (h0 : 0 ≤ z) (h1 : z < 36) : (bk_M κ X (tp, tj, ts, tk) g n).1 102 112 (bk_ix (bk_i z)) = .int (bk_i (ts 112 z)) := bR_6 rfl h0 (by omega) (if_pos (by omega))
theorem pa112 (h0 : 0 ≤ z) (h1 : z < 36) : bk_put (bk_M κ X (tp, tj, ts, tk) g n) 102 112 (bk_ix (bk_i z)) (.int (bk_i v)) = bk_M κ X (tp, tj, bU ts 112 z v, tk) g n := bW_6 rfl h0 (by omega) (if_pos (by omega))
theorem ga114 (h0 : 0 ≤ z) (h1 : z < 36) : (bk_M κ X (tp, tj, ts, tk) g n).1 102 114 (bk_ix (bk_i z)) = .int (bk_i (ts 114 z)) := bR_6 rfl h0 (by omega) (if_pos (by omega))
theorem pa114 (h0 : 0 ≤ z) (h1 : z < 36) : bk_put (bk_M κ X (tp, tj, ts, tk) g n) 102 114 (bk_ix (bk_i z)) (.int (bk_i v)) = bk_M κ X (tp, tj, bU ts 114 z v, tk) g n := bW_6 rfl h0 (by omega) (if_pos (by omega))
theorem ga115 (h0 : 0 ≤ z) (h1 : z < 36) : (bk_M κ X (tp, tj, ts, tk) g n).1 102 115 (bk_ix (bk_i z)) = .int (bk_i (ts 115 z)) := bR_6 rfl h0 (by omega) (if_pos (by omega))
theorem pa115 (h0 : 0 ≤ z) (h1 : z < 36) : bk_put (bk_M κ X (tp, tj, ts, tk) g n) 102 115 (bk_ix (bk_i z)) (.int (bk_i v)) = bk_M κ X (tp, tj, bU ts 115 z v, tk) g n := bW_6 rfl h0 (by omega) (if_pos (by omega))
theorem ga117 (h0 : 0 ≤ z) (h1 : z < 360) : (bk_M κ X (tp, tj, ts, tk) g n).1 102 117 (bk_ix (bk_i z)) = .int (bk_i (ts 117 z)) := bR_6 rfl h0 (by omega) (if_pos (by omega))
theorem pa117 (h0 : 0 ≤ z) (h1 : z < 360) : bk_put (bk_M κ X (tp, tj, ts, tk) g n) 102 117 (bk_ix (bk_i z)) (.int (bk_i v)) = bk_M κ X (tp, tj, bU ts 117 z v, tk) g n := bW_6 rfl h0 (by omega) (if_pos (by omega))
theorem ga88 (h0 : 0 ≤ z) (h1 : z < 396) : (bk_M κ (cp, cs, cj) Y g n).1 104 88 (bk_ix (bk_i z)) = .long (cj 88 z) := bR_3 rfl h0 (by omega) (if_pos (by omega))
theorem pa88 (h0 : 0 ≤ z) (h1 : z < 396) : bk_put (bk_M κ (cp, cs, cj) Y g n) 104 88 (bk_ix (bk_i z)) (.long w) = bk_M κ (cp, cs, bUJ cj 88 z w) Y g n := bW_3 rfl h0 (by omega) (if_pos (by omega))
theorem ga89 (h0 : 0 ≤ z) (h1 : z < 396) : (bk_M κ (cp, cs, cj) Y g n).1 104 89 (bk_ix (bk_i z)) = .long (cj 89 z) := bR_3 rfl h0 (by omega) (if_pos (by omega))
theorem pa89 (h0 : 0 ≤ z) (h1 : z < 396) : bk_put (bk_M κ (cp, cs, cj) Y g n) 104 89 (bk_ix (bk_i z)) (.long w) = bk_M κ (cp, cs, bUJ cj 89 z w) Y g n := bW_3 rfl h0 (by omega) (if_pos (by omega))
theorem ga113 (h0 : 0 ≤ z) (h1 : z < 396) : (bk_M κ X (tp, tj, ts, tk) g n).1 104 113 (bk_ix (bk_i z)) = .long (tk 113 z) := bR_7 rfl h0 (by omega) (if_pos (by omega))
theorem pa113 (h0 : 0 ≤ z) (h1 : z < 396) : bk_put (bk_M κ X (tp, tj, ts, tk) g n) 104 113 (bk_ix (bk_i z)) (.long w) = bk_M κ X (tp, tj, ts, bUJ tk 113 z w) g n := bW_7 rfl h0 (by omega) (if_pos (by omega))
theorem ga121 (h0 : 0 ≤ z) (h1 : z < 160) : (bk_M κ X (tp, tj, ts, tk) g n).1 104 121 (bk_ix (bk_i z)) = .long (tj 121 z) := bR_5 rfl h0 (by omega) (if_pos (by omega))
theorem pa121 (h0 : 0 ≤ z) (h1 : z < 160) : bk_put (bk_M κ X (tp, tj, ts, tk) g n) 104 121 (bk_ix (bk_i z)) (.long w) = bk_M κ X (tp, bUJ tj 121 z w, ts, tk) g n := bW_5 rfl h0 (by omega) (if_pos (by omega))
theorem gf64_4 : (bk_M κ (cp, cs, cj) Y g n).1 0 64 4 = .int (bk_i (cp 64 4)) := bM_1 rfl rfl
theorem pf64_4 : bk_put (bk_M κ (cp, cs, cj) Y g n) 0 64 4 (.int (bk_i v)) = bk_M κ (bU cp 64 4 v, cs, cj) Y g n := bP_1 (a := 64) (k := 4) rfl rfl v
theorem gf64_5 : (bk_M κ (cp, cs, cj) Y g n).1 0 64 5 = .int (bk_i (cp 64 5)) := bM_1 rfl rfl
theorem pf64_5 : bk_put (bk_M κ (cp, cs, cj) Y g n) 0 64 5 (.int (bk_i v)) = bk_M κ (bU cp 64 5 v, cs, cj) Y g n := bP_1 (a := 64) (k := 5) rfl rfl v
theorem gf64_6 : (bk_M κ (cp, cs, cj) Y g n).1 0 64 6 = .int (bk_i (cp 64 6)) := bM_1 rfl rfl
theorem pf64_6 : bk_put (bk_M κ (cp, cs, cj) Y g n) 0 64 6 (.int (bk_i v)) = bk_M κ (bU cp 64 6 v, cs, cj) Y g n := bP_1 (a := 64) (k := 6) rfl rfl v
theorem gf64_8 : (bk_M κ (cp, cs, cj) Y g n).1 0 64 8 = .int (bk_i (cp 64 8)) := bM_1 rfl rfl
theorem pf64_8 : bk_put (bk_M κ (cp, cs, cj) Y g n) 0 64 8 (.int (bk_i v)) = bk_M κ (bU cp 64 8 v, cs, cj) Y g n := bP_1 (a := 64) (k := 8) rfl rfl v
theorem gf64_9 : (bk_M κ (cp, cs, cj) Y g n).1 0 64 9 = .int (bk_i (cp 64 9)) := bM_1 rfl rfl
theorem pf64_9 : bk_put (bk_M κ (cp, cs, cj) Y g n) 0 64 9 (.int (bk_i v)) = bk_M κ (bU cp 64 9 v, cs, cj) Y g n := bP_1 (a := 64) (k := 9) rfl rfl v
theorem gf64_10 : (bk_M κ (cp, cs, cj) Y g n).1 0 64 10 = .int (bk_i (cs 64 10)) := bM_2 rfl rfl
theorem pf64_10 : bk_put (bk_M κ (cp, cs, cj) Y g n) 0 64 10 (.int (bk_i v)) = bk_M κ (cp, bU cs 64 10 v, cj) Y g n := bP_2 (a := 64) (k := 10) rfl rfl v
theorem gf64_14 : (bk_M κ (cp, cs, cj) Y g n).1 0 64 14 = .int (bk_i (cs 64 14)) := bM_2 rfl rfl
theorem pf64_14 : bk_put (bk_M κ (cp, cs, cj) Y g n) 0 64 14 (.int (bk_i v)) = bk_M κ (cp, bU cs 64 14 v, cj) Y g n := bP_2 (a := 64) (k := 14) rfl rfl v
theorem gf70_0 : (bk_M κ (cp, cs, cj) Y g n).1 2 70 0 = .int (bk_i (cp 70 0)) := bM_1 rfl rfl
theorem pf70_0 : bk_put (bk_M κ (cp, cs, cj) Y g n) 2 70 0 (.int (bk_i v)) = bk_M κ (bU cp 70 0 v, cs, cj) Y g n := bP_1 (a := 70) (k := 0) rfl rfl v
theorem gf70_1 : (bk_M κ (cp, cs, cj) Y g n).1 2 70 1 = .int (bk_i (cp 70 1)) := bM_1 rfl rfl
theorem pf70_1 : bk_put (bk_M κ (cp, cs, cj) Y g n) 2 70 1 (.int (bk_i v)) = bk_M κ (bU cp 70 1 v, cs, cj) Y g n := bP_1 (a := 70) (k := 1) rfl rfl v
theorem gf70_2 : (bk_M κ (cp, cs, cj) Y g n).1 2 70 2 = .int (bk_i (cp 70 2)) := bM_1 rfl rfl
theorem pf70_2 : bk_put (bk_M κ (cp, cs, cj) Y g n) 2 70 2 (.int (bk_i v)) = bk_M κ (bU cp 70 2 v, cs, cj) Y g n := bP_1 (a := 70) (k := 2) rfl rfl v
theorem gf70_3 : (bk_M κ (cp, cs, cj) Y g n).1 2 70 3 = .int (bk_i (cp 70 3)) := bM_1 rfl rfl
theorem pf70_3 : bk_put (bk_M κ (cp, cs, cj) Y g n) 2 70 3 (.int (bk_i v)) = bk_M κ (bU cp 70 3 v, cs, cj) Y g n := bP_1 (a := 70) (k := 3) rfl rfl v
theorem gf71_0 : (bk_M κ (cp, cs, cj) Y g n).1 2 71 0 = .int (bk_i (cs 71 0)) := bM_2 rfl rfl
theorem pf71_0 : bk_put (bk_M κ (cp, cs, cj) Y g n) 2 71 0 (.int (bk_i v)) = bk_M κ (cp, bU cs 71 0 v, cj) Y g n := bP_2 (a := 71) (k := 0) rfl rfl v
theorem gf71_1 : (bk_M κ (cp, cs, cj) Y g n).1 2 71 1 = .int (bk_i (cs 71 1)) := bM_2 rfl rfl
theorem pf71_1 : bk_put (bk_M κ (cp, cs, cj) Y g n) 2 71 1 (.int (bk_i v)) = bk_M κ (cp, bU cs 71 1 v, cj) Y g n := bP_2 (a := 71) (k := 1) rfl rfl v
theorem gf71_2 : (bk_M κ (cp, cs, cj) Y g n).1 2 71 2 = .int (bk_i (cs 71 2)) := bM_2 rfl rfl
theorem pf71_2 : bk_put (bk_M κ (cp, cs, cj) Y g n) 2 71 2 (.int (bk_i v)) = bk_M κ (cp, bU cs 71 2 v, cj) Y g n := bP_2 (a := 71) (k := 2) rfl rfl v
theorem gf71_3 : (bk_M κ (cp, cs, cj) Y g n).1 2 71 3 = .int (bk_i (cs 71 3)) := bM_2 rfl rfl
theorem pf71_3 : bk_put (bk_M κ (cp, cs, cj) Y g n) 2 71 3 (.int (bk_i v)) = bk_M κ (cp, bU cs 71 3 v, cj) Y g n := bP_2 (a := 71) (k := 3) rfl rfl v
theorem gf102_5 : (bk_M κ X (tp, tj, ts, tk) g n).1 4 102 5 = .int (bk_i (tp 102 5)) := bM_4 rfl rfl
theorem pf102_5 : bk_put (bk_M κ X (tp, tj, ts, tk) g n) 4 102 5 (.int (bk_i v)) = bk_M κ X (bU tp 102 5 v, tj, ts, tk) g n := bP_4 (a := 102) (k := 5) rfl rfl v
theorem gf102_13 : (bk_M κ X (tp, tj, ts, tk) g n).1 4 102 13 = .int (bk_i (tp 102 13)) := bM_4 rfl rfl
theorem pf102_13 : bk_put (bk_M κ X (tp, tj, ts, tk) g n) 4 102 13 (.int (bk_i v)) = bk_M κ X (bU tp 102 13 v, tj, ts, tk) g n := bP_4 (a := 102) (k := 13) rfl rfl v
theorem gf102_14 : (bk_M κ X (tp, tj, ts, tk) g n).1 4 102 14 = .int (bk_i (tp 102 14)) := bM_4 rfl rfl
theorem pf102_14 : bk_put (bk_M κ X (tp, tj, ts, tk) g n) 4 102 14 (.int (bk_i v)) = bk_M κ X (bU tp 102 14 v, tj, ts, tk) g n := bP_4 (a := 102) (k := 14) rfl rfl v
theorem gf102_0 : (bk_M κ X (tp, tj, ts, tk) g n).1 4 102 0 = .int (bk_i (ts 102 0)) := bM_6 rfl rfl
theorem pf102_0 : bk_put (bk_M κ X (tp, tj, ts, tk) g n) 4 102 0 (.int (bk_i v)) = bk_M κ X (tp, tj, bU ts 102 0 v, tk) g n := bP_6 (a := 102) (k := 0) rfl rfl v
theorem gf102_6 : (bk_M κ X (tp, tj, ts, tk) g n).1 4 102 6 = .int (bk_i (ts 102 6)) := bM_6 rfl rfl
theorem pf102_6 : bk_put (bk_M κ X (tp, tj, ts, tk) g n) 4 102 6 (.int (bk_i v)) = bk_M κ X (tp, tj, bU ts 102 6 v, tk) g n := bP_6 (a := 102) (k := 6) rfl rfl v
theorem gf102_7 : (bk_M κ X (tp, tj, ts, tk) g n).1 4 102 7 = .int (bk_i (ts 102 7)) := bM_6 rfl rfl
theorem pf102_7 : bk_put (bk_M κ X (tp, tj, ts, tk) g n) 4 102 7 (.int (bk_i v)) = bk_M κ X (tp, tj, bU ts 102 7 v, tk) g n := bP_6 (a := 102) (k := 7) rfl rfl v
theorem gf102_8 : (bk_M κ X (tp, tj, ts, tk) g n).1 4 102 8 = .int (bk_i (ts 102 8)) := bM_6 rfl rfl
theorem pf102_8 : bk_put (bk_M κ X (tp, tj, ts, tk) g n) 4 102 8 (.int (bk_i v)) = bk_M κ X (tp, tj, bU ts 102 8 v, tk) g n := bP_6 (a := 102) (k := 8) rfl rfl v
theorem gf102_9 : (bk_M κ X (tp, tj, ts, tk) g n).1 4 102 9 = .int (bk_i (ts 102 9)) := bM_6 rfl rfl
theorem pf102_9 : bk_put (bk_M κ X (tp, tj, ts, tk) g n) 4 102 9 (.int (bk_i v)) = bk_M κ X (tp, tj, bU ts 102 9 v, tk) g n := bP_6 (a := 102) (k := 9) rfl rfl v
theorem gf102_10 : (bk_M κ X (tp, tj, ts, tk) g n).1 4 102 10 = .int (bk_i (ts 102 10)) := bM_6 rfl rfl
theorem pf102_10 : bk_put (bk_M κ X (tp, tj, ts, tk) g n) 4 102 10 (.int (bk_i v)) = bk_M κ X (tp, tj, bU ts 102 10 v, tk) g n := bP_6 (a := 102) (k := 10) rfl rfl v
theorem gf102_11 : (bk_M κ X (tp, tj, ts, tk) g n).1 4 102 11 = .int (bk_i (ts 102 11)) := bM_6 rfl rfl
theorem pf102_11 : bk_put (bk_M κ X (tp, tj, ts, tk) g n) 4 102 11 (.int (bk_i v)) = bk_M κ X (tp, tj, bU ts 102 11 v, tk) g n := bP_6 (a := 102) (k := 11) rfl rfl v
theorem gf102_12 : (bk_M κ X (tp, tj, ts, tk) g n).1 4 102 12 = .int (bk_i (ts 102 12)) := bM_6 rfl rfl
theorem pf102_12 : bk_put (bk_M κ X (tp, tj, ts, tk) g n) 4 102 12 (.int (bk_i v)) = bk_M κ X (tp, tj, bU ts 102 12 v, tk) g n := bP_6 (a := 102) (k := 12) rfl rfl v
theorem gf102_15 : (bk_M κ X (tp, tj, ts, tk) g n).1 4 102 15 = .int (bk_i (ts 102 15)) := bM_6 rfl rfl
theorem pf102_15 : bk_put (bk_M κ X (tp, tj, ts, tk) g n) 4 102 15 (.int (bk_i v)) = bk_M κ X (tp, tj, bU ts 102 15 v, tk) g n := bP_6 (a := 102) (k := 15) rfl rfl v
theorem gf102_19 : (bk_M κ X (tp, tj, ts, tk) g n).1 4 102 19 = .int (bk_i (ts 102 19)) := bM_6 rfl rfl
theorem pf102_19 : bk_put (bk_M κ X (tp, tj, ts, tk) g n) 4 102 19 (.int (bk_i v)) = bk_M κ X (tp, tj, bU ts 102 19 v, tk) g n := bP_6 (a := 102) (k := 19) rfl rfl v
theorem gf102_20 : (bk_M κ X (tp, tj, ts, tk) g n).1 4 102 20 = .int (bk_i (ts 102 20)) := bM_6 rfl rfl
theorem pf102_20 : bk_put (bk_M κ X (tp, tj, ts, tk) g n) 4 102 20 (.int (bk_i v)) = bk_M κ X (tp, tj, bU ts 102 20 v, tk) g n := bP_6 (a := 102) (k := 20) rfl rfl v
theorem gr64_1 (hF : bFix g) : (bk_M κ X Y g n).1 0 64 1 = .ref 70 := (bM_0 rfl).trans (hF.1 (0, 64, 1, 70) (by decide))
theorem gr64_2 (hF : bFix g) : (bk_M κ X Y g n).1 0 64 2 = .ref 71 := (bM_0 rfl).trans (hF.1 (0, 64, 2, 71) (by decide))
theorem gr64_3 (hF : bFix g) : (bk_M κ X Y g n).1 0 64 3 = .ref 72 := (bM_0 rfl).trans (hF.1 (0, 64, 3, 72) (by decide))
theorem gr64_7 (hF : bFix g) : (bk_M κ X Y g n).1 0 64 7 = .ref 73 := (bM_0 rfl).trans (hF.1 (0, 64, 7, 73) (by decide))
theorem gr64_11 (hF : bFix g) : (bk_M κ X Y g n).1 0 64 11 = .ref 84 := (bM_0 rfl).trans (hF.1 (0, 64, 11, 84) (by decide))
theorem gr64_12 (hF : bFix g) : (bk_M κ X Y g n).1 0 64 12 = .ref 85 := (bM_0 rfl).trans (hF.1 (0, 64, 12, 85) (by decide))
theorem gr64_13 (hF : bFix g) : (bk_M κ X Y g n).1 0 64 13 = .ref 86 := (bM_0 rfl).trans (hF.1 (0, 64, 13, 86) (by decide))
theorem gr64_15 (hF : bFix g) : (bk_M κ X Y g n).1 0 64 15 = .ref 87 := (bM_0 rfl).trans (hF.1 (0, 64, 15, 87) (by decide))
theorem gr64_16 (hF : bFix g) : (bk_M κ X Y g n).1 0 64 16 = .ref 88 := (bM_0 rfl).trans (hF.1 (0, 64, 16, 88) (by decide))
theorem gr64_17 (hF : bFix g) : (bk_M κ X Y g n).1 0 64 17 = .ref 89 := (bM_0 rfl).trans (hF.1 (0, 64, 17, 89) (by decide))
theorem gr64_18 (hF : bFix g) : (bk_M κ X Y g n).1 0 64 18 = .ref 90 := (bM_0 rfl).trans (hF.1 (0, 64, 18, 90) (by decide))
theorem gr64_19 (hF : bFix g) : (bk_M κ X Y g n).1 0 64 19 = .ref 91 := (bM_0 rfl).trans (hF.1 (0, 64, 19, 91) (by decide))
theorem gr64_20 (hF : bFix g) : (bk_M κ X Y g n).1 0 64 20 = .ref 92 := (bM_0 rfl).trans (hF.1 (0, 64, 20, 92) (by decide))
theorem gr64_21 (hF : bFix g) : (bk_M κ X Y g n).1 0 64 21 = .ref 93 := (bM_0 rfl).trans (hF.1 (0, 64, 21, 93) (by decide))
theorem gr64_22 (hF : bFix g) : (bk_M κ X Y g n).1 0 64 22 = .ref 98 := (bM_0 rfl).trans (hF.1 (0, 64, 22, 98) (by decide))
theorem gr64_23 (hF : bFix g) : (bk_M κ X Y g n).1 0 64 23 = .ref 99 := (bM_0 rfl).trans (hF.1 (0, 64, 23, 99) (by decide))
theorem gr70_4 (hF : bFix g) : (bk_M κ X Y g n).1 2 70 4 = .ref 64 := (bM_0 rfl).trans (hF.1 (2, 70, 4, 64) (by decide))
theorem gr71_4 (hF : bFix g) : (bk_M κ X Y g n).1 2 71 4 = .ref 64 := (bM_0 rfl).trans (hF.1 (2, 71, 4, 64) (by decide))
theorem gr102_1 (hF : bFix g) : (bk_M κ X Y g n).1 4 102 1 = .ref 103 := (bM_0 rfl).trans (hF.1 (4, 102, 1, 103) (by decide))
theorem gr102_2 (hF : bFix g) : (bk_M κ X Y g n).1 4 102 2 = .ref 104 := (bM_0 rfl).trans (hF.1 (4, 102, 2, 104) (by decide))
theorem gr102_3 (hF : bFix g) : (bk_M κ X Y g n).1 4 102 3 = .ref 105 := (bM_0 rfl).trans (hF.1 (4, 102, 3, 105) (by decide))
theorem gr102_4 (hF : bFix g) : (bk_M κ X Y g n).1 4 102 4 = .ref 106 := (bM_0 rfl).trans (hF.1 (4, 102, 4, 106) (by decide))
theorem gr102_16 (hF : bFix g) : (bk_M κ X Y g n).1 4 102 16 = .ref 107 := (bM_0 rfl).trans (hF.1 (4, 102, 16, 107) (by decide))
theorem gr102_17 (hF : bFix g) : (bk_M κ X Y g n).1 4 102 17 = .ref 108 := (bM_0 rfl).trans (hF.1 (4, 102, 17, 108) (by decide))
theorem gr102_18 (hF : bFix g) : (bk_M κ X Y g n).1 4 102 18 = .ref 109 := (bM_0 rfl).trans (hF.1 (4, 102, 18, 109) (by decide))
theorem gr102_21 (hF : bFix g) : (bk_M κ X Y g n).1 4 102 21 = .ref 110 := (bM_0 rfl).trans (hF.1 (4, 102, 21, 110) (by decide))
theorem gr102_22 (hF : bFix g) : (bk_M κ X Y g n).1 4 102 22 = .ref 111 := (bM_0 rfl).trans (hF.1 (4, 102, 22, 111) (by decide))
theorem gr102_23 (hF : bFix g) : (bk_M κ X Y g n).1 4 102 23 = .ref 112 := (bM_0 rfl).trans (hF.1 (4, 102, 23, 112) (by decide))
theorem gr102_24 (hF : bFix g) : (bk_M κ X Y g n).1 4 102 24 = .ref 113 := (bM_0 rfl).trans (hF.1 (4, 102, 24, 113) (by decide))
theorem gr102_25 (hF : bFix g) : (bk_M κ X Y g n).1 4 102 25 = .ref 114 := (bM_0 rfl).trans (hF.1 (4, 102, 25, 114) (by decide))
theorem gr102_26 (hF : bFix g) : (bk_M κ X Y g n).1 4 102 26 = .ref 115 := (bM_0 rfl).trans (hF.1 (4, 102, 26, 115) (by decide))
theorem gr102_27 (hF : bFix g) : (bk_M κ X Y g n).1 4 102 27 = .ref 116 := (bM_0 rfl).trans (hF.1 (4, 102, 27, 116) (by decide))
theorem gr102_28 (hF : bFix g) : (bk_M κ X Y g n).1 4 102 28 = .ref 117 := (bM_0 rfl).trans (hF.1 (4, 102, 28, 117) (by decide))
theorem gr102_29 (hF : bFix g) : (bk_M κ X Y g n).1 4 102 29 = .ref 118 := (bM_0 rfl).trans (hF.1 (4, 102, 29, 118) (by decide))
theorem gr102_30 (hF : bFix g) : (bk_M κ X Y g n).1 4 102 30 = .ref 119 := (bM_0 rfl).trans (hF.1 (4, 102, 30, 119) (by decide))
theorem gr102_31 (hF : bFix g) : (bk_M κ X Y g n).1 4 102 31 = .ref 120 := (bM_0 rfl).trans (hF.1 (4, 102, 31, 120) (by decide))
theorem gr102_32 (hF : bFix g) : (bk_M κ X Y g n).1 4 102 32 = .ref 121 := (bM_0 rfl).trans (hF.1 (4, 102, 32, 121) (by decide))
theorem gu73 (hF : bFix g) (h0 : 0 ≤ z) (h1 : z < 10) : (bk_M κ X Y g n).1 105 73 (bk_ix (bk_i z)) = .ref (74 + z.toNat) := by
  rw [bi_ix h0 (by omega), bM_t (by decide), (hF.2.1 z.toNat (by omega)).1]
theorem kd74 (i k : Nat) (h : i < 10) (hk : k < 4) : bk_so (74 + i) = 2 ∧ bk_kd κ (74 + i) k = 1 := by
  have e : bk_n k 4 1 = 1 := if_pos hk
  rcases i with _ | _ | _ | _ | _ | _ | _ | _ | _ | _ | i
  · exact ⟨rfl, e⟩
  · exact ⟨rfl, e⟩
  · exact ⟨rfl, e⟩
  · exact ⟨rfl, e⟩
  · exact ⟨rfl, e⟩
  · exact ⟨rfl, e⟩
  · exact ⟨rfl, e⟩
  · exact ⟨rfl, e⟩
  · exact ⟨rfl, e⟩
  · exact ⟨rfl, e⟩
  · omega
theorem kd74r (i : Nat) (h : i < 10) : bk_kd κ (74 + i) 4 = 0 := by
  rcases i with _ | _ | _ | _ | _ | _ | _ | _ | _ | _ | i
  · rfl
  · rfl
  · rfl
  · rfl
  · rfl
  · rfl
  · rfl
  · rfl
  · rfl
  · rfl
  · omega
theorem gs74_0 (h1 : z.toNat < 10) : (bk_M κ (cp, cs, cj) Y g n).1 2 (74 + z.toNat) 0 = .int (bk_i (cp (74 + z.toNat) 0)) := bM_1 (kd74 (κ := κ) _ 0 h1 (by omega)).1.symm (kd74 (κ := κ) _ 0 h1 (by omega)).2
theorem ps74_0 (h1 : z.toNat < 10) : bk_put (bk_M κ (cp, cs, cj) Y g n) 2 (74 + z.toNat) 0 (.int (bk_i v)) = bk_M κ (bU cp (74 + z.toNat) 0 v, cs, cj) Y g n := bP_1 (kd74 (κ := κ) _ 0 h1 (by omega)).1.symm (kd74 (κ := κ) _ 0 h1 (by omega)).2 v
theorem gs74_1 (h1 : z.toNat < 10) : (bk_M κ (cp, cs, cj) Y g n).1 2 (74 + z.toNat) 1 = .int (bk_i (cp (74 + z.toNat) 1)) := bM_1 (kd74 (κ := κ) _ 1 h1 (by omega)).1.symm (kd74 (κ := κ) _ 1 h1 (by omega)).2
theorem ps74_1 (h1 : z.toNat < 10) : bk_put (bk_M κ (cp, cs, cj) Y g n) 2 (74 + z.toNat) 1 (.int (bk_i v)) = bk_M κ (bU cp (74 + z.toNat) 1 v, cs, cj) Y g n := bP_1 (kd74 (κ := κ) _ 1 h1 (by omega)).1.symm (kd74 (κ := κ) _ 1 h1 (by omega)).2 v
theorem gs74_2 (h1 : z.toNat < 10) : (bk_M κ (cp, cs, cj) Y g n).1 2 (74 + z.toNat) 2 = .int (bk_i (cp (74 + z.toNat) 2)) := bM_1 (kd74 (κ := κ) _ 2 h1 (by omega)).1.symm (kd74 (κ := κ) _ 2 h1 (by omega)).2
theorem ps74_2 (h1 : z.toNat < 10) : bk_put (bk_M κ (cp, cs, cj) Y g n) 2 (74 + z.toNat) 2 (.int (bk_i v)) = bk_M κ (bU cp (74 + z.toNat) 2 v, cs, cj) Y g n := bP_1 (kd74 (κ := κ) _ 2 h1 (by omega)).1.symm (kd74 (κ := κ) _ 2 h1 (by omega)).2 v
theorem gs74_3 (h1 : z.toNat < 10) : (bk_M κ (cp, cs, cj) Y g n).1 2 (74 + z.toNat) 3 = .int (bk_i (cp (74 + z.toNat) 3)) := bM_1 (kd74 (κ := κ) _ 3 h1 (by omega)).1.symm (kd74 (κ := κ) _ 3 h1 (by omega)).2
theorem ps74_3 (h1 : z.toNat < 10) : bk_put (bk_M κ (cp, cs, cj) Y g n) 2 (74 + z.toNat) 3 (.int (bk_i v)) = bk_M κ (bU cp (74 + z.toNat) 3 v, cs, cj) Y g n := bP_1 (kd74 (κ := κ) _ 3 h1 (by omega)).1.symm (kd74 (κ := κ) _ 3 h1 (by omega)).2 v
theorem gu99 (hF : bFix g) (h0 : 0 ≤ z) (h1 : z < 2) : (bk_M κ X Y g n).1 105 99 (bk_ix (bk_i z)) = .ref (100 + z.toNat) := by
  rw [bi_ix h0 (by omega), bM_t (by decide), (hF.2.2.2 z.toNat (by omega)).1]
theorem kd100 (i k : Nat) (h : i < 2) (hk : k < 4) : bk_so (100 + i) = 2 ∧ bk_kd κ (100 + i) k = 1 := by
  have e : bk_n k 4 1 = 1 := if_pos hk
  rcases i with _ | _ | i
  · exact ⟨rfl, e⟩
  · exact ⟨rfl, e⟩
  · omega
theorem kd100r (i : Nat) (h : i < 2) : bk_kd κ (100 + i) 4 = 0 := by
  rcases i with _ | _ | i
  · rfl
  · rfl
  · omega
theorem gs100_0 (h1 : z.toNat < 2) : (bk_M κ (cp, cs, cj) Y g n).1 2 (100 + z.toNat) 0 = .int (bk_i (cp (100 + z.toNat) 0)) := bM_1 (kd100 (κ := κ) _ 0 h1 (by omega)).1.symm (kd100 (κ := κ) _ 0 h1 (by omega)).2
theorem ps100_0 (h1 : z.toNat < 2) : bk_put (bk_M κ (cp, cs, cj) Y g n) 2 (100 + z.toNat) 0 (.int (bk_i v)) = bk_M κ (bU cp (100 + z.toNat) 0 v, cs, cj) Y g n := bP_1 (kd100 (κ := κ) _ 0 h1 (by omega)).1.symm (kd100 (κ := κ) _ 0 h1 (by omega)).2 v
theorem gs100_1 (h1 : z.toNat < 2) : (bk_M κ (cp, cs, cj) Y g n).1 2 (100 + z.toNat) 1 = .int (bk_i (cp (100 + z.toNat) 1)) := bM_1 (kd100 (κ := κ) _ 1 h1 (by omega)).1.symm (kd100 (κ := κ) _ 1 h1 (by omega)).2
theorem ps100_1 (h1 : z.toNat < 2) : bk_put (bk_M κ (cp, cs, cj) Y g n) 2 (100 + z.toNat) 1 (.int (bk_i v)) = bk_M κ (bU cp (100 + z.toNat) 1 v, cs, cj) Y g n := bP_1 (kd100 (κ := κ) _ 1 h1 (by omega)).1.symm (kd100 (κ := κ) _ 1 h1 (by omega)).2 v
theorem gs100_2 (h1 : z.toNat < 2) : (bk_M κ (cp, cs, cj) Y g n).1 2 (100 + z.toNat) 2 = .int (bk_i (cp (100 + z.toNat) 2)) := bM_1 (kd100 (κ := κ) _ 2 h1 (by omega)).1.symm (kd100 (κ := κ) _ 2 h1 (by omega)).2
theorem ps100_2 (h1 : z.toNat < 2) : bk_put (bk_M κ (cp, cs, cj) Y g n) 2 (100 + z.toNat) 2 (.int (bk_i v)) = bk_M κ (bU cp (100 + z.toNat) 2 v, cs, cj) Y g n := bP_1 (kd100 (κ := κ) _ 2 h1 (by omega)).1.symm (kd100 (κ := κ) _ 2 h1 (by omega)).2 v
theorem gs100_3 (h1 : z.toNat < 2) : (bk_M κ (cp, cs, cj) Y g n).1 2 (100 + z.toNat) 3 = .int (bk_i (cp (100 + z.toNat) 3)) := bM_1 (kd100 (κ := κ) _ 3 h1 (by omega)).1.symm (kd100 (κ := κ) _ 3 h1 (by omega)).2
theorem ps100_3 (h1 : z.toNat < 2) : bk_put (bk_M κ (cp, cs, cj) Y g n) 2 (100 + z.toNat) 3 (.int (bk_i v)) = bk_M κ (bU cp (100 + z.toNat) 3 v, cs, cj) Y g n := bP_1 (kd100 (κ := κ) _ 3 h1 (by omega)).1.symm (kd100 (κ := κ) _ 3 h1 (by omega)).2 v
theorem gu93 (hF : bFix g) (h0 : 0 ≤ z) (h1 : z < 4) : (bk_M κ X Y g n).1 106 93 (bk_ix (bk_i z)) = .ref (94 + z.toNat) := by
  rw [bi_ix h0 (by omega), bM_t (by decide), hF.2.2.1 z.toNat (by omega)]
theorem bM_n1 : (bk_M κ X Y g n).2.1 = n.1 := rfl
theorem bM_n2 : (bk_M κ X Y g n).2.2 = n.2 := rfl
end R
